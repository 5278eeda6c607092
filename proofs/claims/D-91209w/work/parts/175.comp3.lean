set_option maxRecDepth 100000
set_option maxHeartbeats 4000000 in
set_option maxRecDepth 100000 in
theorem cc_X1_leads_2 (l : Launch) (D : va_G) (cA : Nat → ClassId) (A : Nat → Prop) (sa : Nat → Nat) (ad : Nat → Nat → Nat) (F : Nat → Nat) (N : Nat → Nat → Nat) (Z : Nat → Int) (E : Nat → Nat → Int) (K : Nat) (hKb : K ≤ 1000000) (hF : FB F) (hN : NB N) (hZ : ZB K Z) (hwf : WF F N) (t i n : Nat) (ht : t < F 3) (hi : i < N 8 t) (hn1 : 1 ≤ n) (hn3 : n ≤ 3) (hcn : N 13 t = 0) (heb2 : eb (E 2)) : Met l yX1_leads_2 (ws_ yX1_leads_2 cX1_leads_2 5 (some .int)) ({ frames := 4, cells := 0, slots := 0, locals := 104 }) (PC D cA A sa ad F N Z E [.ref (ad 0 (0)), .ref (ad 4 (t)), .int (iI (i)), .int (iI (n))]) (k2_QcV (.int (iI (ldF N Z (E 2) n t i)))) 0 0 (fun _ => False) := by
  refine Met.ofW (cc := cX1_leads_2) (maxL := 5) (ret := (some .int)) (by decide) rfl ?_
  intro p e s m args below meth c s₁ B hml hv
  obtain ⟨rfl, hK, hW⟩ := hv
  have hx := B.exec
  have hb := B.bytes
  have hr := B.returns
  have hts := atoms_spec (ws := ws_ yX1_leads_2 cX1_leads_2 5 (some .int)) B.pre
  have hts : ∀ w ∈ lw_all, w.before _ s = true := fun w h => hts w (List.mem_cons_of_mem _ h)
  have hown : s.vm.findClass RX1 = some m.cls := findClass_of_methodNamed B.named
  have hlocks := B.notSynchronized
  have hl := lv_entry ([.ref (ad 0 (0)), .ref (ad 4 (t)), .int (iI (i)), .int (iI (n))]) (n := 5) (Nat.le_of_ble_eq_true rfl)
  rw [lg_entry_eq]
  generalize (lg_sl ([.ref (ad 0 (0)), .ref (ad 4 (t)), .int (iI (i)), .int (iI (n))]) ++ List.replicate (5 - (lg_sl ([.ref (ad 0 (0)), .ref (ad 4 (t)), .int (iI (i)), .int (iI (n))])).length) Slot.unset).toArray = ls at hl ⊢
  have hl : lv_has ls 5 [(0, .ref (ad 0 (0))), (1, .ref (ad 4 (t))), (2, .int (iI (i))), (3, .int (iI (n)))] := hl
  obtain ⟨hSX, hW⟩ := hW
  have hS : va_S A s.heap s.heap [] := va_S.rf
  have hF2 : F 2 ≤ 10 := hF 2
  have hF3 : F 3 ≤ 16 := hF 3
  have hF4 : F 4 ≤ 60 := hF 4
  have hF5 : F 5 ≤ 40 := hF 5
  have hF1 : F 1 ≤ 1439 := hF 1
  have hm8 : N 8 t ≤ 10 := hN 8 t
  refine lv_iload_n hx hb dX1_leads_2_0 rfl (lv_at hl 2 rfl) ?_
  refine lv_iconst (v := iI (1)) hx hb dX1_leads_2_1 rfl ?_
  refine ri_iadd hx hb dX1_leads_2_2 ?_
  refine ri_top (b := (i + 1 : Nat)) (by omega) ?_
  refine lv_istore (lv' := [(4, .int (iI ((i + 1 : Nat)))), (0, .ref (ad 0 (0))), (1, .ref (ad 4 (t))), (2, .int (iI (i))), (3, .int (iI (n)))]) hx hb dX1_leads_2_3 hl (by decide) rfl (fun ls hl => ?_)
  have lp5 : ∀ (fuel : Nat) (j : Nat) (hj1 : i + 1 ≤ j) (hj2 : j ≤ N 8 t) (hf : ldF N Z (E 2) n t i = ldR N Z (E 2) n t (N 8 t - j) j), N 8 t - j < fuel → ∀ (ls : Array Slot), lv_has ls 5 [(4, .int (iI (j))), (0, .ref (ad 0 (0))), (1, .ref (ad 4 (t))), (2, .int (iI (i))), (3, .int (iI (n)))] → W p l e (headSpec (ws_ yX1_leads_2 cX1_leads_2 5 (some .int)) ({ frames := 4, cells := 0, slots := 0, locals := 104 })).room s m ([.ref (ad 0 (0)), .ref (ad 4 (t)), .int (iI (i)), .int (iI (n))] : List Value).toArray below meth c s.heap [] 0 0 (MQ below (k2_QcV (.int (iI (ldF N Z (E 2) n t i)))) ([.ref (ad 0 (0)), .ref (ad 4 (t)), .int (iI (i)), .int (iI (n))] : List Value).toArray s 0 0 (fun _ => False)) (F0 m 5 ls []) := by
    intro fuel
    induction fuel with
    | zero => intro j hj1 hj2 hf hm; exact absurd hm (Nat.not_lt_zero _)
    | succ fuel ih5 =>
      intro j hj1 hj2 hf hm5 ls hl
      refine lv_iload hx hb dX1_leads_2_5 (lv_at hl 0 rfl) ?_
      refine lv_aload_n hx hb dX1_leads_2_7 rfl (lv_at hl 2 rfl) ?_
      refine h_getN hx hb hts in_X4 hown hK (hW.k4 (t) (by omega)) rfl 2 (by decide) q533 rfl (v := .ref (ad 1 (10 + t))) rfl dX1_leads_2_8 ?_
      have b2 : N 8 (t) ≤ 10 := hN 8 _
      obtain ⟨mc1, cp1, cq1, cr1, hLi1⟩ := (hW.lp (t) (by omega))
      refine rc_V (W.runV (As := []) (rest := [.int (iI (j))]) ⟨hx, hb, hml, hown, hts⟩ (al_size l D cA (ad 1 (10 + t)) mc1 (ad 2 (10 + t)) (N 8 (t))) (cwV 0 hts (lw_V q448 q449 q450 q45 q451) rfl rfl rfl (by decide +kernel) ⟨Nat.le_of_ble_eq_true rfl, Nat.le_of_ble_eq_true rfl⟩) (preV hK hLi1.1 rfl hLi1.1) rfl rfl hl.1 rfl (lv_room (Nat.le_of_ble_eq_true rfl)) dX1_leads_2_11 ⟨Nat.le_of_ble_eq_true rfl, Nat.le_of_ble_eq_true rfl⟩) ?_
      refine ri_icmp_ge (tgt := 89) hx hb (by unfold inR; omega) (by unfold inR; omega) dX1_leads_2_14 (by decide) (fun h3 => ?_) (fun h3 => ?_)
      · skip
        refine lv_iconst (v := iI (-1)) hx hb dX1_leads_2_89 rfl ?_
        exact W.iret hx hb hr (fun tt htt hWm => ⟨congrArg (fun z => Outcome.returned (some (Value.int (iI z)))) (by first | (rw [hf, show N 8 t - j = 0 by omega]; rfl) | rw [hf, show N 8 t - j = (N 8 t - (j + 1)) + 1 by omega, ldR_stop hfree]), htt⟩) (fun _ h => absurd h List.not_mem_nil) dX1_leads_2_90
      · skip
        refine lv_aload_n hx hb dX1_leads_2_17 rfl (lv_at hl 2 rfl) ?_
        refine h_getN hx hb hts in_X4 hown hK (hW.k4 (t) (by omega)) rfl 3 (by decide) q535 rfl (v := .ref (ad 5 (t))) rfl dX1_leads_2_18 ?_
        refine lv_iload hx hb dX1_leads_2_21 (lv_at hl 0 rfl) ?_
        refine lv_iconst (v := iI (1)) hx hb dX1_leads_2_23 rfl ?_
        refine ri_isub hx hb dX1_leads_2_24 ?_
        refine ri_top (b := (j - 1 : Nat)) (by omega) ?_
        refine h_iald hx hb hK (hW.k5 (t) (by omega)) ((j - 1 : Nat)) (by omega) (by omega) (by decide) dX1_leads_2_25 ?_
        refine W.eq (g2 := F0 m 26 ls [.int (iI (Z (10 * t + ((j - 1 : Nat)))))]) rfl ?_
        have b4 : -(K : Int) ≤ Z (10 * t + ((j - 1 : Nat))) ∧ Z (10 * t + ((j - 1 : Nat))) ≤ K := hZ _
        refine lv_aload_n hx hb dX1_leads_2_26 rfl (lv_at hl 2 rfl) ?_
        have b5 : N 7 (t) ≤ 40 := hN 7 _
        refine h_getN hx hb hts in_X4 hown hK (hW.k4 (t) (by omega)) rfl 1 (by decide) q530 rfl (v := .int (iI (N 7 (t)))) rfl dX1_leads_2_27 ?_
        refine ri_icmp_ge (tgt := 89) hx hb (by unfold inR; omega) (by unfold inR; omega) dX1_leads_2_30 (by decide) (fun h6 => ?_) (fun h6 => ?_)
        · skip
          have hfree : ¬ freeB N Z t (j - 1) = true := by unfold freeB; rw [decide_eq_false (by omega)]; exact Bool.false_ne_true
          refine lv_iconst (v := iI (-1)) hx hb dX1_leads_2_89 rfl ?_
          exact W.iret hx hb hr (fun tt htt hWm => ⟨congrArg (fun z => Outcome.returned (some (Value.int (iI z)))) (by first | (rw [hf, show N 8 t - j = 0 by omega]; rfl) | rw [hf, show N 8 t - j = (N 8 t - (j + 1)) + 1 by omega, ldR_stop hfree]), htt⟩) (fun _ h => absurd h List.not_mem_nil) dX1_leads_2_90
        · skip
          have hfree : freeB N Z t (j - 1) = true := by unfold freeB; exact decide_eq_true ⟨hcn, by omega⟩
          refine lv_aload_n hx hb dX1_leads_2_33 rfl (lv_at hl 2 rfl) ?_
          refine h_getN hx hb hts in_X4 hown hK (hW.k4 (t) (by omega)) rfl 2 (by decide) q533 rfl (v := .ref (ad 1 (10 + t))) rfl dX1_leads_2_34 ?_
          refine lv_iload hx hb dX1_leads_2_37 (lv_at hl 0 rfl) ?_
          obtain ⟨mc7, cp7, cq7, cr7, hLi7⟩ := (hW.lp (t) (by omega))
          refine rc_V (W.runV (As := [.int (iI (j))]) (rest := []) ⟨hx, hb, hml, hown, hts⟩ (al_get l D cA (ad 1 (10 + t)) mc7 (ad 2 (10 + t)) (N 8 (t)) cp7 (fun j => ad 6 (10 * t + j)) (j) (by omega)) (cwV 1 hts (lw_V q565 q566 q567 q45 q568) rfl rfl rfl (by decide +kernel) ⟨Nat.le_of_ble_eq_true rfl, Nat.le_of_ble_eq_true rfl⟩) (preV hK hLi7.1 rfl hLi7) rfl rfl hl.1 rfl (lv_room (Nat.le_of_ble_eq_true rfl)) dX1_leads_2_39 ⟨Nat.le_of_ble_eq_true rfl, Nat.le_of_ble_eq_true rfl⟩) ?_
          refine h_cast (ci := 4) (q := (RX5, TX5, 2)) hx hb hown (hts _ q699) hK rfl (isO.of (hW.k6 (t) (j) (by omega) (by omega))) dX1_leads_2_42 ?_
          refine rc_V (W.runV (As := []) (rest := []) ⟨hx, hb, hml, hown, hts⟩ (cc_X5_sorted l D cA A sa ad F N Z E K hKb hF hN hZ hwf t j (by omega) (by omega)) (cwV 0 hts (lw_V q700 q688 q689 q67 q690) rfl rfl rfl (by decide +kernel) ⟨Nat.le_of_ble_eq_true rfl, Nat.le_of_ble_eq_true rfl⟩) (preVC hK hSX hS (hW.k6 (t) (j) (by omega) (by omega)) rfl hW) rfl rfl hl.1 rfl (lv_room (Nat.le_of_ble_eq_true rfl)) dX1_leads_2_45 ⟨Nat.le_of_ble_eq_true rfl, Nat.le_of_ble_eq_true rfl⟩) ?_
          have b8 : behN N (10 * t + j) ≤ 1499 := behN_le hN _
          refine lv_aload_n hx hb dX1_leads_2_48 rfl (lv_at hl 1 rfl) ?_
          refine h_get hx hb hts in_X1 hown hK hW.c0 rfl 6 (by decide) (hts _ q427) rfl (v := .ref (ad 0 (2))) rfl dX1_leads_2_49 ?_
          refine lv_iload_n hx hb dX1_leads_2_52 rfl (lv_at hl 4 rfl) ?_
          refine lv_iconst (v := iI (1)) hx hb dX1_leads_2_53 rfl ?_
          refine ri_isub hx hb dX1_leads_2_54 ?_
          refine ri_top (b := (n - 1 : Nat)) (by omega) ?_
          refine lv_aload_n hx hb dX1_leads_2_55 rfl (lv_at hl 2 rfl) ?_
          refine h_getN hx hb hts in_X4 hown hK (hW.k4 (t) (by omega)) rfl 2 (by decide) q533 rfl (v := .ref (ad 1 (10 + t))) rfl dX1_leads_2_56 ?_
          refine lv_iload hx hb dX1_leads_2_59 (lv_at hl 0 rfl) ?_
          obtain ⟨mc9, cp9, cq9, cr9, hLi9⟩ := (hW.lp (t) (by omega))
          refine rc_V (W.runV (As := [.int (iI (j))]) (rest := [.int (iI ((n - 1 : Nat))), .ref (ad 0 (2)), .int (iI (behN N (10 * t + j)))]) ⟨hx, hb, hml, hown, hts⟩ (al_get l D cA (ad 1 (10 + t)) mc9 (ad 2 (10 + t)) (N 8 (t)) cp9 (fun j => ad 6 (10 * t + j)) (j) (by omega)) (cwV 1 hts (lw_V q565 q566 q567 q45 q568) rfl rfl rfl (by decide +kernel) ⟨Nat.le_of_ble_eq_true rfl, Nat.le_of_ble_eq_true rfl⟩) (preV hK hLi9.1 rfl hLi9) rfl rfl hl.1 rfl (lv_room (Nat.le_of_ble_eq_true rfl)) dX1_leads_2_61 ⟨Nat.le_of_ble_eq_true rfl, Nat.le_of_ble_eq_true rfl⟩) ?_
          refine h_cast (ci := 4) (q := (RX5, TX5, 2)) hx hb hown (hts _ q699) hK rfl (isO.of (hW.k6 (t) (j) (by omega) (by omega))) dX1_leads_2_64 ?_
          have b10 : N 9 (10 * t + j) < F 2 := hwf.1 _ _ (by omega) (by omega)
          refine h_getN hx hb hts in_X5 hown hK (hW.k6 (t) (j) (by omega) (by omega)) rfl 0 (by decide) q819 rfl (v := .ref (ad 3 (N 9 (10 * t + j)))) rfl dX1_leads_2_67 ?_
          refine h_getN hx hb hts in_X3 hown hK (hW.k3 (N 9 (10 * t + j)) (by omega)) rfl 0 (by decide) q459 rfl (v := .int (iI (N 9 (10 * t + j)))) rfl dX1_leads_2_70 ?_
          refine rc_V (W.runS (As := [.int (iI ((n - 1 : Nat))), .int (iI (N 9 (10 * t + j)))]) (rest := [.ref (ad 0 (2)), .int (iI (behN N (10 * t + j)))]) ⟨hx, hb, hml, hown, hts⟩ (cc_X1_at l D cA ((n - 1 : Nat)) (N 9 (10 * t + j)) ) (va_cwS 2 hts (lw_S q696 q697 q42 q698) rfl rfl rfl (by decide +kernel) ⟨Nat.le_of_ble_eq_true rfl, Nat.le_of_ble_eq_true rfl⟩) (preS hK (B := fun _ => True) trivial) rfl rfl hl.1 rfl (lv_room (Nat.le_of_ble_eq_true rfl)) dX1_leads_2_73 ⟨Nat.le_of_ble_eq_true rfl, Nat.le_of_ble_eq_true rfl⟩) ?_
          refine h_iald hx hb hK hW.c2 (10 * (n - 1) + N 9 (10 * t + j)) (by omega) (by omega) (by decide) dX1_leads_2_76 ?_
          refine W.eq (g2 := F0 m 77 ls [.int (iI (E 2 (10 * (n - 1) + N 9 (10 * t + j)))), .int (iI (behN N (10 * t + j)))]) rfl ?_
          have b11 : -1 ≤ E 2 (10 * (n - 1) + N 9 (10 * t + j)) ∧ E 2 (10 * (n - 1) + N 9 (10 * t + j)) ≤ 1000000 := heb2 _
          refine ri_icmp_gt (tgt := 83) hx hb (by unfold inR; omega) (by unfold inR; omega) dX1_leads_2_77 (by decide) (fun h12 => ?_) (fun h12 => ?_)
          · skip
            refine lv_iinc (v := iI ((j + 1 : Nat))) (lv' := [(4, .int (iI ((j + 1 : Nat)))), (0, .ref (ad 0 (0))), (1, .ref (ad 4 (t))), (2, .int (iI (i))), (3, .int (iI (n)))]) hx hb dX1_leads_2_83 hl (k := 0) rfl (iI_succ _) (by decide) rfl (fun ls hl => ?_)
            refine lv_goto (tgt := 5) hx hb dX1_leads_2_86 (by decide) ?_
            rw [show N 8 t - j = (N 8 t - (j + 1)) + 1 by omega, ldR_next hfree (by omega)] at hf
            exact ih5 (j + 1) (by omega) (by omega) hf (by omega) _ (lv_sub hl [0, 1, 2, 3, 4] rfl)
          · skip
            refine lv_iload hx hb dX1_leads_2_80 (lv_at hl 0 rfl) ?_
            exact W.iret hx hb hr (fun tt htt hWm => ⟨congrArg (fun z => Outcome.returned (some (Value.int (iI z)))) (by rw [hf, show N 8 t - j = (N 8 t - (j + 1)) + 1 by omega, ldR_hit hfree (by omega)]), htt⟩) (fun _ h => absurd h List.not_mem_nil) dX1_leads_2_82
  exact lp5 _ (i + 1) (Nat.le_refl _) (by omega) rfl (Nat.lt_succ_self _) _ (lv_sub hl [0, 1, 2, 3, 4] rfl)

set_option maxHeartbeats 4000000 in
set_option maxRecDepth 100000 in
theorem cc_X1_goes (l : Launch) (D : va_G) (cA : Nat → ClassId) (A : Nat → Prop) (sa : Nat → Nat) (ad : Nat → Nat → Nat) (F : Nat → Nat) (N : Nat → Nat → Nat) (Z : Nat → Int) (E : Nat → Nat → Int) (K : Nat) (hKb : K ≤ 1000000) (hF : FB F) (hN : NB N) (hZ : ZB K Z) (hwf : WF F N) (f mi most : Nat) (hf9 : f < F 2) (hmi : mi ≤ 2000) (hmo : most ≤ 3) : Met l yX1_goes (ws_ yX1_goes cX1_goes 11 none) ({ frames := 4, cells := 0, slots := 0, locals := 104 }) (PC D cA A sa ad F N Z E [.ref (ad 0 (0)), .int (iI (f)), .int (iI (mi)), .int (iI (most))]) (Qn (fun H' => eb (gAll (F 3) N Z f mi most) ∧ CW D cA A sa ad F N Z (va_up E 1 (gAll (F 3) N Z f mi most)) H') A) 0 0 (A) := by
  refine Met.ofW (cc := cX1_goes) (maxL := 11) (ret := none) (by decide) rfl ?_
  intro p e s m args below meth c s₁ B hml hv
  obtain ⟨rfl, hK, hW⟩ := hv
  have hx := B.exec
  have hb := B.bytes
  have hr := B.returns
  have hts := atoms_spec (ws := ws_ yX1_goes cX1_goes 11 none) B.pre
  have hts : ∀ w ∈ lw_all, w.before _ s = true := fun w h => hts w (List.mem_cons_of_mem _ h)
  have hown : s.vm.findClass RX1 = some m.cls := findClass_of_methodNamed B.named
  have hlocks := B.notSynchronized
  have hl := lv_entry ([.ref (ad 0 (0)), .int (iI (f)), .int (iI (mi)), .int (iI (most))]) (n := 11) (Nat.le_of_ble_eq_true rfl)
  rw [lg_entry_eq]
  generalize (lg_sl ([.ref (ad 0 (0)), .int (iI (f)), .int (iI (mi)), .int (iI (most))]) ++ List.replicate (11 - (lg_sl ([.ref (ad 0 (0)), .int (iI (f)), .int (iI (mi)), .int (iI (most))])).length) Slot.unset).toArray = ls at hl ⊢
  have hl : lv_has ls 11 [(0, .ref (ad 0 (0))), (1, .int (iI (f))), (2, .int (iI (mi))), (3, .int (iI (most)))] := hl
  obtain ⟨hSX, hW⟩ := hW
  have hS : va_S A s.heap s.heap [] := va_S.rf
  have hF2 : F 2 ≤ 10 := hF 2
  have hF3 : F 3 ≤ 16 := hF 3
  have hF4 : F 4 ≤ 60 := hF 4
  have hF5 : F 5 ≤ 40 := hF 5
  have hF1 : F 1 ≤ 1439 := hF 1
  refine lv_iconst (v := iI (0)) hx hb dX1_goes_0 rfl ?_
  refine lv_istore (lv' := [(4, .int (iI (0))), (0, .ref (ad 0 (0))), (1, .int (iI (f))), (2, .int (iI (mi))), (3, .int (iI (most)))]) hx hb dX1_goes_1 hl (by decide) rfl (fun ls hl => ?_)
  have lp3 : ∀ (fuel : Nat) (k : Nat) (hk : k ≤ 40), 40 - k < fuel → ∀ (H : Heap) (locs : List Loc) (ls : Array Slot), CW D cA A sa ad F N Z (va_up (E) 1 (fl 1000000 (E 1) k)) H → va_S A s.heap H locs → lv_has ls 11 [(4, .int (iI (k))), (0, .ref (ad 0 (0))), (1, .int (iI (f))), (2, .int (iI (mi))), (3, .int (iI (most)))] → W p l e (headSpec (ws_ yX1_goes cX1_goes 11 none) ({ frames := 4, cells := 0, slots := 0, locals := 104 })).room s m ([.ref (ad 0 (0)), .int (iI (f)), .int (iI (mi)), .int (iI (most))] : List Value).toArray below meth c H locs 0 0 (MQ below (Qn (fun H' => eb (gAll (F 3) N Z f mi most) ∧ CW D cA A sa ad F N Z (va_up E 1 (gAll (F 3) N Z f mi most)) H') A) ([.ref (ad 0 (0)), .int (iI (f)), .int (iI (mi)), .int (iI (most))] : List Value).toArray s 0 0 (A)) (F0 m 3 ls []) := by
    intro fuel
    induction fuel with
    | zero => intro k hk hm; exact absurd hm (Nat.not_lt_zero _)
    | succ fuel ih3 =>
      intro k hk hm3 H locs ls hW hS hl
      refine lv_iload hx hb dX1_goes_3 (lv_at hl 0 rfl) ?_
      refine lv_aload_n hx hb dX1_goes_5 rfl (lv_at hl 1 rfl) ?_
      refine h_get hx hb hts in_X1 hown hK hW.c0 rfl 5 (by decide) (hts _ q426) rfl (v := .ref (ad 0 (1))) rfl dX1_goes_6 ?_
      refine h_alen hx hb hK 0 rfl hW.c1 dX1_goes_9 ?_
      refine W.eq (g2 := F0 m 10 ls [.int (iI (40)), .int (iI (k))]) rfl ?_
      refine ri_icmp_ge (tgt := 28) hx hb (by unfold inR; omega) (by unfold inR; omega) dX1_goes_10 (by decide) (fun h1 => ?_) (fun h1 => ?_)
      · skip
        have hW := hW.toE1 hF3 hN (e' := fun _ => 1000000) (fun j hj => by unfold fl; rw [if_pos (by omega)])
        refine lv_aload_n hx hb dX1_goes_28 rfl (lv_at hl 1 rfl) ?_
        refine h_get hx hb hts in_X1 hown hK hW.c0 rfl 5 (by decide) (hts _ q426) rfl (v := .ref (ad 0 (1))) rfl dX1_goes_29 ?_
        refine lv_iconst (v := iI (0)) hx hb dX1_goes_32 rfl ?_
        refine lv_iload_n hx hb dX1_goes_33 rfl (lv_at hl 2 rfl) ?_
        refine rc_V (W.runS (As := [.int (iI (0)), .int (iI (f))]) (rest := [.ref (ad 0 (1))]) ⟨hx, hb, hml, hown, hts⟩ (cc_X1_at l D cA 0 f ) (va_cwS 2 hts (lw_S q696 q697 q42 q698) rfl rfl rfl (by decide +kernel) ⟨Nat.le_of_ble_eq_true rfl, Nat.le_of_ble_eq_true rfl⟩) (preS hK (B := fun _ => True) trivial) rfl rfl hl.1 rfl (lv_room (Nat.le_of_ble_eq_true rfl)) dX1_goes_34 ⟨Nat.le_of_ble_eq_true rfl, Nat.le_of_ble_eq_true rfl⟩) ?_
        refine lv_iload_n hx hb dX1_goes_37 rfl (lv_at hl 3 rfl) ?_
        refine c_stE1 hx hb hK hW hF3 hN hS (f) (by omega) (by omega) dX1_goes_38 (fun H locs hW hS => ?_)
        have heb1 : eb (va_up (fun _ => (1000000 : Int)) f (mi : Int)) := eb.up (fun _ => ⟨by decide, by decide⟩) (by omega) (by omega)
        refine lv_iconst (v := iI (1)) hx hb dX1_goes_39 rfl ?_
        refine lv_istore (lv' := [(4, .int (iI (1))), (0, .ref (ad 0 (0))), (1, .int (iI (f))), (2, .int (iI (mi))), (3, .int (iI (most)))]) hx hb dX1_goes_40 hl (by decide) rfl (fun ls hl => ?_)
        have lp42 : ∀ (fuel : Nat) (n : Nat) (e2 : Nat → Int) (hn1 : 1 ≤ n) (hn2 : n ≤ most + 1) (heb1 : eb e2) (hf2 : gNs N Z (F 3) (most + 1 - n) n e2 = gAll (F 3) N Z f mi most), most + 1 - n < fuel → ∀ (H : Heap) (locs : List Loc) (ls : Array Slot), CW D cA A sa ad F N Z (va_up (E) 1 (e2)) H → va_S A s.heap H locs → lv_has ls 11 [(4, .int (iI (n))), (0, .ref (ad 0 (0))), (1, .int (iI (f))), (2, .int (iI (mi))), (3, .int (iI (most)))] → W p l e (headSpec (ws_ yX1_goes cX1_goes 11 none) ({ frames := 4, cells := 0, slots := 0, locals := 104 })).room s m ([.ref (ad 0 (0)), .int (iI (f)), .int (iI (mi)), .int (iI (most))] : List Value).toArray below meth c H locs 0 0 (MQ below (Qn (fun H' => eb (gAll (F 3) N Z f mi most) ∧ CW D cA A sa ad F N Z (va_up E 1 (gAll (F 3) N Z f mi most)) H') A) ([.ref (ad 0 (0)), .int (iI (f)), .int (iI (mi)), .int (iI (most))] : List Value).toArray s 0 0 (A)) (F0 m 42 ls []) := by
          intro fuel
          induction fuel with
          | zero => intro n e2 hn1 hn2 heb1 hf2 hm; exact absurd hm (Nat.not_lt_zero _)
          | succ fuel ih42 =>
            intro n e2 hn1 hn2 heb1 hf2 hm42 H locs ls hW hS hl
            refine lv_iload hx hb dX1_goes_42 (lv_at hl 0 rfl) ?_
            refine lv_iload_n hx hb dX1_goes_44 rfl (lv_at hl 4 rfl) ?_
            refine ri_icmp_gt (tgt := 267) hx hb (by unfold inR; omega) (by unfold inR; omega) dX1_goes_45 (by decide) (fun h2 => ?_) (fun h2 => ?_)
            · skip
              rw [show most + 1 - n = 0 by omega] at hf2
              have hf2 : e2 = gAll (F 3) N Z f mi most := hf2
              exact W.vret hx hb hr (fun tt htt hWm => ⟨⟨rfl, by rw [htt]; exact (hf2 ▸ ⟨heb1, hW⟩)⟩, hS.F htt⟩) hS.2.2 dX1_goes_267
            · skip
              refine lv_iconst (v := iI (0)) hx hb dX1_goes_48 rfl ?_
              refine lv_istore (lv' := [(5, .int (iI (0))), (4, .int (iI (n))), (0, .ref (ad 0 (0))), (1, .int (iI (f))), (2, .int (iI (mi))), (3, .int (iI (most)))]) hx hb dX1_goes_49 hl (by decide) rfl (fun ls hl => ?_)
              have lp51 : ∀ (fuel : Nat) (t : Nat) (e3 : Nat → Int) (ht : t ≤ F 3) (heb1 : eb e3) (hf3 : gTs N Z n (F 3 - t) t e3 = gTs N Z n (F 3) 0 e2), F 3 - t < fuel → ∀ (H : Heap) (locs : List Loc) (ls : Array Slot), CW D cA A sa ad F N Z (va_up (E) 1 (e3)) H → va_S A s.heap H locs → lv_has ls 11 [(5, .int (iI (t))), (4, .int (iI (n))), (0, .ref (ad 0 (0))), (1, .int (iI (f))), (2, .int (iI (mi))), (3, .int (iI (most)))] → W p l e (headSpec (ws_ yX1_goes cX1_goes 11 none) ({ frames := 4, cells := 0, slots := 0, locals := 104 })).room s m ([.ref (ad 0 (0)), .int (iI (f)), .int (iI (mi)), .int (iI (most))] : List Value).toArray below meth c H locs 0 0 (MQ below (Qn (fun H' => eb (gAll (F 3) N Z f mi most) ∧ CW D cA A sa ad F N Z (va_up E 1 (gAll (F 3) N Z f mi most)) H') A) ([.ref (ad 0 (0)), .int (iI (f)), .int (iI (mi)), .int (iI (most))] : List Value).toArray s 0 0 (A)) (F0 m 51 ls []) := by
                intro fuel
                induction fuel with
                | zero => intro t e3 ht heb1 hf3 hm; exact absurd hm (Nat.not_lt_zero _)
                | succ fuel ih51 =>
                  intro t e3 ht heb1 hf3 hm51 H locs ls hW hS hl
                  refine lv_iload hx hb dX1_goes_51 (lv_at hl 0 rfl) ?_
                  refine lv_aload_n hx hb dX1_goes_53 rfl (lv_at hl 2 rfl) ?_
                  refine h_get hx hb hts in_X1 hown hK hW.c0 rfl 1 (by decide) (hts _ q422) rfl (v := .ref (ad 1 (1))) rfl dX1_goes_54 ?_
                  obtain ⟨mc3, cp3, cq3, cr3, hLi3⟩ := hW.l1
                  refine rc_V (W.runV (As := []) (rest := [.int (iI (t))]) ⟨hx, hb, hml, hown, hts⟩ (al_size l D cA (ad 1 (1)) mc3 (ad 2 (1)) (F 3)) (cwV 0 hts (lw_V q448 q449 q450 q45 q451) rfl rfl rfl (by decide +kernel) ⟨Nat.le_of_ble_eq_true rfl, Nat.le_of_ble_eq_true rfl⟩) (preV hK hLi3.1 rfl hLi3.1) rfl rfl hl.1 rfl (lv_room (Nat.le_of_ble_eq_true rfl)) dX1_goes_57 ⟨Nat.le_of_ble_eq_true rfl, Nat.le_of_ble_eq_true rfl⟩) ?_
                  refine ri_icmp_ge (tgt := 261) hx hb (by unfold inR; omega) (by unfold inR; omega) dX1_goes_60 (by decide) (fun h4 => ?_) (fun h4 => ?_)
                  · skip
                    refine lv_iinc (v := iI ((n + 1 : Nat))) (lv' := [(4, .int (iI ((n + 1 : Nat)))), (5, .int (iI (t))), (0, .ref (ad 0 (0))), (1, .int (iI (f))), (2, .int (iI (mi))), (3, .int (iI (most)))]) hx hb dX1_goes_261 hl (k := 1) rfl (iI_succ _) (by decide) rfl (fun ls hl => ?_)
                    refine lv_goto (tgt := 42) hx hb dX1_goes_264 (by decide) ?_
                    rw [show F 3 - t = 0 by omega] at hf3
                    have hf3 : e3 = gTs N Z n (F 3) 0 e2 := hf3
                    rw [show most + 1 - n = (most + 1 - (n + 1)) + 1 by omega, gNs, ← hf3] at hf2
                    exact ih42 (n + 1) (e3) (by omega) (by omega) heb1 hf2 (by omega) _ _ _ hW hS (lv_sub hl [0, 2, 3, 4, 5] rfl)
                  · skip
                    refine lv_aload_n hx hb dX1_goes_63 rfl (lv_at hl 2 rfl) ?_
                    refine h_get hx hb hts in_X1 hown hK hW.c0 rfl 1 (by decide) (hts _ q422) rfl (v := .ref (ad 1 (1))) rfl dX1_goes_64 ?_
                    refine lv_iload hx hb dX1_goes_67 (lv_at hl 0 rfl) ?_
                    obtain ⟨mc5, cp5, cq5, cr5, hLi5⟩ := hW.l1
                    refine rc_V (W.runV (As := [.int (iI (t))]) (rest := []) ⟨hx, hb, hml, hown, hts⟩ (al_get l D cA (ad 1 (1)) mc5 (ad 2 (1)) (F 3) cp5 (ad 4) (t) (by omega)) (cwV 1 hts (lw_V q565 q566 q567 q45 q568) rfl rfl rfl (by decide +kernel) ⟨Nat.le_of_ble_eq_true rfl, Nat.le_of_ble_eq_true rfl⟩) (preV hK hLi5.1 rfl hLi5) rfl rfl hl.1 rfl (lv_room (Nat.le_of_ble_eq_true rfl)) dX1_goes_69 ⟨Nat.le_of_ble_eq_true rfl, Nat.le_of_ble_eq_true rfl⟩) ?_
                    refine h_cast (ci := 3) (q := (RX4, TX4, 6)) hx hb hown (hts _ q519) hK rfl (isO.of (hW.k4 (t) (by omega))) dX1_goes_72 ?_
                    refine lv_astore (lv' := [(6, .ref (ad 4 (t))), (5, .int (iI (t))), (4, .int (iI (n))), (0, .ref (ad 0 (0))), (1, .int (iI (f))), (2, .int (iI (mi))), (3, .int (iI (most)))]) hx hb dX1_goes_75 hl (by decide) rfl (fun ls hl => ?_)
                    refine lv_iconst (v := iI (0)) hx hb dX1_goes_77 rfl ?_
                    refine lv_istore (lv' := [(7, .int (iI (0))), (6, .ref (ad 4 (t))), (5, .int (iI (t))), (4, .int (iI (n))), (0, .ref (ad 0 (0))), (1, .int (iI (f))), (2, .int (iI (mi))), (3, .int (iI (most)))]) hx hb dX1_goes_78 hl (by decide) rfl (fun ls hl => ?_)
                    have lp80 : ∀ (fuel : Nat) (i : Nat) (e4 : Nat → Int) (hi : i ≤ N 8 t) (heb1 : eb e4) (hc4 : N 13 t ≠ 0 → i = 0 ∧ e4 = e3) (hf4 : gIs N Z n t (N 8 t - i) i e4 = gIs N Z n t (N 8 t) 0 e3), N 8 t - i < fuel → ∀ (H : Heap) (locs : List Loc) (ls : Array Slot), CW D cA A sa ad F N Z (va_up (E) 1 (e4)) H → va_S A s.heap H locs → lv_has ls 11 [(7, .int (iI (i))), (6, .ref (ad 4 (t))), (5, .int (iI (t))), (4, .int (iI (n))), (0, .ref (ad 0 (0))), (1, .int (iI (f))), (2, .int (iI (mi))), (3, .int (iI (most)))] → W p l e (headSpec (ws_ yX1_goes cX1_goes 11 none) ({ frames := 4, cells := 0, slots := 0, locals := 104 })).room s m ([.ref (ad 0 (0)), .int (iI (f)), .int (iI (mi)), .int (iI (most))] : List Value).toArray below meth c H locs 0 0 (MQ below (Qn (fun H' => eb (gAll (F 3) N Z f mi most) ∧ CW D cA A sa ad F N Z (va_up E 1 (gAll (F 3) N Z f mi most)) H') A) ([.ref (ad 0 (0)), .int (iI (f)), .int (iI (mi)), .int (iI (most))] : List Value).toArray s 0 0 (A)) (F0 m 80 ls []) := by
                      intro fuel
                      induction fuel with
                      | zero => intro i e4 hi heb1 hc4 hf4 hm; exact absurd hm (Nat.not_lt_zero _)
                      | succ fuel ih80 =>
                        intro i e4 hi heb1 hc4 hf4 hm80 H locs ls hW hS hl
                        have hm8 : N 8 t ≤ 10 := hN 8 t
                        refine lv_iload hx hb dX1_goes_80 (lv_at hl 0 rfl) ?_
                        refine lv_aload hx hb dX1_goes_82 (lv_at hl 1 rfl) ?_
                        refine h_getN hx hb hts in_X4 hown hK (hW.k4 (t) (by omega)) rfl 2 (by decide) q533 rfl (v := .ref (ad 1 (10 + t))) rfl dX1_goes_84 ?_
                        have b7 : N 8 (t) ≤ 10 := hN 8 _
                        obtain ⟨mc6, cp6, cq6, cr6, hLi6⟩ := (hW.lp (t) (by omega))
                        refine rc_V (W.runV (As := []) (rest := [.int (iI (i))]) ⟨hx, hb, hml, hown, hts⟩ (al_size l D cA (ad 1 (10 + t)) mc6 (ad 2 (10 + t)) (N 8 (t))) (cwV 0 hts (lw_V q448 q449 q450 q45 q451) rfl rfl rfl (by decide +kernel) ⟨Nat.le_of_ble_eq_true rfl, Nat.le_of_ble_eq_true rfl⟩) (preV hK hLi6.1 rfl hLi6.1) rfl rfl hl.1 rfl (lv_room (Nat.le_of_ble_eq_true rfl)) dX1_goes_87 ⟨Nat.le_of_ble_eq_true rfl, Nat.le_of_ble_eq_true rfl⟩) ?_
                        refine ri_icmp_ge (tgt := 255) hx hb (by unfold inR; omega) (by unfold inR; omega) dX1_goes_90 (by decide) (fun h8 => ?_) (fun h8 => ?_)
                        · skip
                          refine lv_iinc (v := iI ((t + 1 : Nat))) (lv' := [(5, .int (iI ((t + 1 : Nat)))), (7, .int (iI (i))), (6, .ref (ad 4 (t))), (4, .int (iI (n))), (0, .ref (ad 0 (0))), (1, .int (iI (f))), (2, .int (iI (mi))), (3, .int (iI (most)))]) hx hb dX1_goes_255 hl (k := 2) rfl (iI_succ _) (by decide) rfl (fun ls hl => ?_)
                          refine lv_goto (tgt := 51) hx hb dX1_goes_258 (by decide) ?_
                          have hg := gT_back (by omega) hc4 hf4
                          rw [show F 3 - t = (F 3 - (t + 1)) + 1 by omega, gTs, hg] at hf3
                          exact ih51 (t + 1) (e4) (by omega) heb1 hf3 (by omega) _ _ _ hW hS (lv_sub hl [0, 3, 4, 5, 6, 7] rfl)
                        · skip
                          refine lv_aload hx hb dX1_goes_93 (lv_at hl 1 rfl) ?_
                          have b9 : N 13 (t) ≤ 1 := hN 13 _
                          refine h_getN hx hb hts in_X4 hown hK (hW.k4 (t) (by omega)) rfl 4 (by decide) q536 rfl (v := .int (iI (N 13 (t)))) rfl dX1_goes_95 ?_
                          refine ri_if_ne (tgt := 255) hx hb (by unfold inR; omega) dX1_goes_98 (by decide) (fun hcx => ?_) (fun hcx => ?_)
                          · skip
                            refine lv_iinc (v := iI ((t + 1 : Nat))) (lv' := [(5, .int (iI ((t + 1 : Nat)))), (7, .int (iI (i))), (6, .ref (ad 4 (t))), (4, .int (iI (n))), (0, .ref (ad 0 (0))), (1, .int (iI (f))), (2, .int (iI (mi))), (3, .int (iI (most)))]) hx hb dX1_goes_255 hl (k := 2) rfl (iI_succ _) (by decide) rfl (fun ls hl => ?_)
                            refine lv_goto (tgt := 51) hx hb dX1_goes_258 (by decide) ?_
                            have hg := gT_back (by omega) hc4 hf4
                            rw [show F 3 - t = (F 3 - (t + 1)) + 1 by omega, gTs, hg] at hf3
                            exact ih51 (t + 1) (e4) (by omega) heb1 hf3 (by omega) _ _ _ hW hS (lv_sub hl [0, 3, 4, 5, 6, 7] rfl)
                          · skip
                            have hcn : N 13 t = 0 := by omega
                            refine lv_aload hx hb dX1_goes_101 (lv_at hl 1 rfl) ?_
                            refine h_getN hx hb hts in_X4 hown hK (hW.k4 (t) (by omega)) rfl 2 (by decide) q533 rfl (v := .ref (ad 1 (10 + t))) rfl dX1_goes_103 ?_
                            refine lv_iload hx hb dX1_goes_106 (lv_at hl 0 rfl) ?_
                            obtain ⟨mc10, cp10, cq10, cr10, hLi10⟩ := (hW.lp (t) (by omega))
                            refine rc_V (W.runV (As := [.int (iI (i))]) (rest := []) ⟨hx, hb, hml, hown, hts⟩ (al_get l D cA (ad 1 (10 + t)) mc10 (ad 2 (10 + t)) (N 8 (t)) cp10 (fun j => ad 6 (10 * t + j)) (i) (by omega)) (cwV 1 hts (lw_V q565 q566 q567 q45 q568) rfl rfl rfl (by decide +kernel) ⟨Nat.le_of_ble_eq_true rfl, Nat.le_of_ble_eq_true rfl⟩) (preV hK hLi10.1 rfl hLi10) rfl rfl hl.1 rfl (lv_room (Nat.le_of_ble_eq_true rfl)) dX1_goes_108 ⟨Nat.le_of_ble_eq_true rfl, Nat.le_of_ble_eq_true rfl⟩) ?_
                            refine h_cast (ci := 4) (q := (RX5, TX5, 2)) hx hb hown (hts _ q699) hK rfl (isO.of (hW.k6 (t) (i) (by omega) (by omega))) dX1_goes_111 ?_
                            refine lv_astore (lv' := [(8, .ref (ad 6 (10 * t + i))), (7, .int (iI (i))), (6, .ref (ad 4 (t))), (5, .int (iI (t))), (4, .int (iI (n))), (0, .ref (ad 0 (0))), (1, .int (iI (f))), (2, .int (iI (mi))), (3, .int (iI (most)))]) hx hb dX1_goes_114 hl (by decide) rfl (fun ls hl => ?_)
                            refine lv_aload_n hx hb dX1_goes_116 rfl (lv_at hl 5 rfl) ?_
                            refine h_get hx hb hts in_X1 hown hK hW.c0 rfl 5 (by decide) (hts _ q426) rfl (v := .ref (ad 0 (1))) rfl dX1_goes_117 ?_
                            refine lv_iload hx hb dX1_goes_120 (lv_at hl 4 rfl) ?_
                            refine lv_iconst (v := iI (1)) hx hb dX1_goes_122 rfl ?_
                            refine ri_isub hx hb dX1_goes_123 ?_
                            refine ri_top (b := (n - 1 : Nat)) (by omega) ?_
                            refine lv_aload hx hb dX1_goes_124 (lv_at hl 0 rfl) ?_
                            have b11 : N 9 (10 * t + i) < F 2 := hwf.1 _ _ (by omega) (by omega)
                            refine h_getN hx hb hts in_X5 hown hK (hW.k6 (t) (i) (by omega) (by omega)) rfl 0 (by decide) q819 rfl (v := .ref (ad 3 (N 9 (10 * t + i)))) rfl dX1_goes_126 ?_
                            refine h_getN hx hb hts in_X3 hown hK (hW.k3 (N 9 (10 * t + i)) (by omega)) rfl 0 (by decide) q459 rfl (v := .int (iI (N 9 (10 * t + i)))) rfl dX1_goes_129 ?_
                            refine rc_V (W.runS (As := [.int (iI ((n - 1 : Nat))), .int (iI (N 9 (10 * t + i)))]) (rest := [.ref (ad 0 (1))]) ⟨hx, hb, hml, hown, hts⟩ (cc_X1_at l D cA ((n - 1 : Nat)) (N 9 (10 * t + i)) ) (va_cwS 2 hts (lw_S q696 q697 q42 q698) rfl rfl rfl (by decide +kernel) ⟨Nat.le_of_ble_eq_true rfl, Nat.le_of_ble_eq_true rfl⟩) (preS hK (B := fun _ => True) trivial) rfl rfl hl.1 rfl (lv_room (Nat.le_of_ble_eq_true rfl)) dX1_goes_132 ⟨Nat.le_of_ble_eq_true rfl, Nat.le_of_ble_eq_true rfl⟩) ?_
                            refine h_iald hx hb hK hW.c1 (10 * (n - 1) + N 9 (10 * t + i)) (by omega) (by omega) (by decide) dX1_goes_135 ?_
                            refine W.eq (g2 := F0 m 136 ls [.int (iI (e4 (10 * (n - 1) + N 9 (10 * t + i))))]) rfl ?_
                            have b12 : -1 ≤ e4 (10 * (n - 1) + N 9 (10 * t + i)) ∧ e4 (10 * (n - 1) + N 9 (10 * t + i)) ≤ 1000000 := heb1 _
                            refine lv_aload hx hb dX1_goes_136 (lv_at hl 0 rfl) ?_
                            have b13 : N 10 (10 * t + i) ≤ 1439 := hN 10 _
                            refine h_getN hx hb hts in_X5 hown hK (hW.k6 (t) (i) (by omega) (by omega)) rfl 1 (by decide) q821 rfl (v := .int (iI (N 10 (10 * t + i)))) rfl dX1_goes_138 ?_
                            refine ri_icmp_le (tgt := 147) hx hb (by unfold inR; omega) (by unfold inR; omega) dX1_goes_141 (by decide) (fun h14 => ?_) (fun h14 => ?_)
                            · skip
                              refine lv_iload hx hb dX1_goes_147 (lv_at hl 1 rfl) ?_
                              refine lv_iconst (v := iI (1)) hx hb dX1_goes_149 rfl ?_
                              refine ri_iadd hx hb dX1_goes_150 ?_
                              refine ri_top (b := (i + 1 : Nat)) (by omega) ?_
                              refine lv_istore (lv' := [(9, .int (iI ((i + 1 : Nat)))), (8, .ref (ad 6 (10 * t + i))), (7, .int (iI (i))), (6, .ref (ad 4 (t))), (5, .int (iI (t))), (4, .int (iI (n))), (0, .ref (ad 0 (0))), (1, .int (iI (f))), (2, .int (iI (mi))), (3, .int (iI (most)))]) hx hb dX1_goes_151 hl (by decide) rfl (fun ls hl => ?_)
                              have lp153 : ∀ (fuel : Nat) (j : Nat) (e5 : Nat → Int) (hj1 : i + 1 ≤ j) (hj2 : j ≤ N 8 t) (heb1 : eb e5) (hf5 : (offL (freeB N Z t) (N 8 t - j) j).foldl (gJ N n t) e5 = gI N Z n t e4 i), N 8 t - j < fuel → ∀ (H : Heap) (locs : List Loc) (ls : Array Slot), CW D cA A sa ad F N Z (va_up (E) 1 (e5)) H → va_S A s.heap H locs → lv_has ls 11 [(9, .int (iI (j))), (8, .ref (ad 6 (10 * t + i))), (7, .int (iI (i))), (6, .ref (ad 4 (t))), (5, .int (iI (t))), (4, .int (iI (n))), (0, .ref (ad 0 (0))), (1, .int (iI (f))), (2, .int (iI (mi))), (3, .int (iI (most)))] → W p l e (headSpec (ws_ yX1_goes cX1_goes 11 none) ({ frames := 4, cells := 0, slots := 0, locals := 104 })).room s m ([.ref (ad 0 (0)), .int (iI (f)), .int (iI (mi)), .int (iI (most))] : List Value).toArray below meth c H locs 0 0 (MQ below (Qn (fun H' => eb (gAll (F 3) N Z f mi most) ∧ CW D cA A sa ad F N Z (va_up E 1 (gAll (F 3) N Z f mi most)) H') A) ([.ref (ad 0 (0)), .int (iI (f)), .int (iI (mi)), .int (iI (most))] : List Value).toArray s 0 0 (A)) (F0 m 153 ls []) := by
                                intro fuel
                                induction fuel with
                                | zero => intro j e5 hj1 hj2 heb1 hf5 hm; exact absurd hm (Nat.not_lt_zero _)
                                | succ fuel ih153 =>
                                  intro j e5 hj1 hj2 heb1 hf5 hm153 H locs ls hW hS hl
                                  refine lv_iload hx hb dX1_goes_153 (lv_at hl 0 rfl) ?_
                                  refine lv_aload hx hb dX1_goes_155 (lv_at hl 3 rfl) ?_
                                  refine h_getN hx hb hts in_X4 hown hK (hW.k4 (t) (by omega)) rfl 2 (by decide) q533 rfl (v := .ref (ad 1 (10 + t))) rfl dX1_goes_157 ?_
                                  obtain ⟨mc15, cp15, cq15, cr15, hLi15⟩ := (hW.lp (t) (by omega))
                                  refine rc_V (W.runV (As := []) (rest := [.int (iI (j))]) ⟨hx, hb, hml, hown, hts⟩ (al_size l D cA (ad 1 (10 + t)) mc15 (ad 2 (10 + t)) (N 8 (t))) (cwV 0 hts (lw_V q448 q449 q450 q45 q451) rfl rfl rfl (by decide +kernel) ⟨Nat.le_of_ble_eq_true rfl, Nat.le_of_ble_eq_true rfl⟩) (preV hK hLi15.1 rfl hLi15.1) rfl rfl hl.1 rfl (lv_room (Nat.le_of_ble_eq_true rfl)) dX1_goes_160 ⟨Nat.le_of_ble_eq_true rfl, Nat.le_of_ble_eq_true rfl⟩) ?_
                                  refine ri_icmp_ge (tgt := 249) hx hb (by unfold inR; omega) (by unfold inR; omega) dX1_goes_163 (by decide) (fun h16 => ?_) (fun h16 => ?_)
                                  · skip
                                    rw [show N 8 t - j = 0 by omega] at hf5
                                    have hf5 : e5 = gI N Z n t e4 i := hf5
                                    refine lv_iinc (v := iI ((i + 1 : Nat))) (lv' := [(7, .int (iI ((i + 1 : Nat)))), (9, .int (iI (j))), (8, .ref (ad 6 (10 * t + i))), (6, .ref (ad 4 (t))), (5, .int (iI (t))), (4, .int (iI (n))), (0, .ref (ad 0 (0))), (1, .int (iI (f))), (2, .int (iI (mi))), (3, .int (iI (most)))]) hx hb dX1_goes_249 hl (k := 2) rfl (iI_succ _) (by decide) rfl (fun ls hl => ?_)
                                    refine lv_goto (tgt := 80) hx hb dX1_goes_252 (by decide) ?_
                                    have hg := hf5.symm
                                    rw [show N 8 t - i = (N 8 t - (i + 1)) + 1 by omega, gIs, hg] at hf4
                                    exact ih80 (i + 1) (e5) (by omega) heb1 (fun q => absurd hcn q) hf4 (by omega) _ _ _ hW hS (lv_sub hl [0, 3, 4, 5, 6, 7, 8, 9] rfl)
                                  · skip
                                    refine lv_aload hx hb dX1_goes_166 (lv_at hl 3 rfl) ?_
                                    refine h_getN hx hb hts in_X4 hown hK (hW.k4 (t) (by omega)) rfl 3 (by decide) q535 rfl (v := .ref (ad 5 (t))) rfl dX1_goes_168 ?_
                                    refine lv_iload hx hb dX1_goes_171 (lv_at hl 0 rfl) ?_
                                    refine lv_iconst (v := iI (1)) hx hb dX1_goes_173 rfl ?_
                                    refine ri_isub hx hb dX1_goes_174 ?_
                                    refine ri_top (b := (j - 1 : Nat)) (by omega) ?_
                                    refine h_iald hx hb hK (hW.k5 (t) (by omega)) ((j - 1 : Nat)) (by omega) (by omega) (by decide) dX1_goes_175 ?_
                                    refine W.eq (g2 := F0 m 176 ls [.int (iI (Z (10 * t + ((j - 1 : Nat)))))]) rfl ?_
                                    have b17 : -(K : Int) ≤ Z (10 * t + ((j - 1 : Nat))) ∧ Z (10 * t + ((j - 1 : Nat))) ≤ K := hZ _
                                    refine lv_aload hx hb dX1_goes_176 (lv_at hl 3 rfl) ?_
                                    have b18 : N 7 (t) ≤ 40 := hN 7 _
                                    refine h_getN hx hb hts in_X4 hown hK (hW.k4 (t) (by omega)) rfl 1 (by decide) q530 rfl (v := .int (iI (N 7 (t)))) rfl dX1_goes_178 ?_
                                    refine ri_icmp_ge (tgt := 249) hx hb (by unfold inR; omega) (by unfold inR; omega) dX1_goes_181 (by decide) (fun h19 => ?_) (fun h19 => ?_)
                                    · skip
                                      have hfree : ¬ freeB N Z t (j - 1) = true := by unfold freeB; rw [decide_eq_false (by omega)]; exact Bool.false_ne_true
                                      rw [show N 8 t - j = (N 8 t - (j + 1)) + 1 by omega, offL, if_neg hfree] at hf5
                                      have hf5 : e5 = gI N Z n t e4 i := hf5
                                      refine lv_iinc (v := iI ((i + 1 : Nat))) (lv' := [(7, .int (iI ((i + 1 : Nat)))), (9, .int (iI (j))), (8, .ref (ad 6 (10 * t + i))), (6, .ref (ad 4 (t))), (5, .int (iI (t))), (4, .int (iI (n))), (0, .ref (ad 0 (0))), (1, .int (iI (f))), (2, .int (iI (mi))), (3, .int (iI (most)))]) hx hb dX1_goes_249 hl (k := 2) rfl (iI_succ _) (by decide) rfl (fun ls hl => ?_)
                                      refine lv_goto (tgt := 80) hx hb dX1_goes_252 (by decide) ?_
                                      have hg := hf5.symm
                                      rw [show N 8 t - i = (N 8 t - (i + 1)) + 1 by omega, gIs, hg] at hf4
                                      exact ih80 (i + 1) (e5) (by omega) heb1 (fun q => absurd hcn q) hf4 (by omega) _ _ _ hW hS (lv_sub hl [0, 3, 4, 5, 6, 7, 8, 9] rfl)
                                    · skip
                                      have hfree : freeB N Z t (j - 1) = true := by unfold freeB; exact decide_eq_true ⟨hcn, by omega⟩
                                      rw [show N 8 t - j = (N 8 t - (j + 1)) + 1 by omega, offL, if_pos hfree, List.foldl_cons] at hf5
                                      refine lv_aload hx hb dX1_goes_184 (lv_at hl 3 rfl) ?_
                                      refine h_getN hx hb hts in_X4 hown hK (hW.k4 (t) (by omega)) rfl 2 (by decide) q533 rfl (v := .ref (ad 1 (10 + t))) rfl dX1_goes_186 ?_
                                      refine lv_iload hx hb dX1_goes_189 (lv_at hl 0 rfl) ?_
                                      obtain ⟨mc20, cp20, cq20, cr20, hLi20⟩ := (hW.lp (t) (by omega))
                                      refine rc_V (W.runV (As := [.int (iI (j))]) (rest := []) ⟨hx, hb, hml, hown, hts⟩ (al_get l D cA (ad 1 (10 + t)) mc20 (ad 2 (10 + t)) (N 8 (t)) cp20 (fun j => ad 6 (10 * t + j)) (j) (by omega)) (cwV 1 hts (lw_V q565 q566 q567 q45 q568) rfl rfl rfl (by decide +kernel) ⟨Nat.le_of_ble_eq_true rfl, Nat.le_of_ble_eq_true rfl⟩) (preV hK hLi20.1 rfl hLi20) rfl rfl hl.1 rfl (lv_room (Nat.le_of_ble_eq_true rfl)) dX1_goes_191 ⟨Nat.le_of_ble_eq_true rfl, Nat.le_of_ble_eq_true rfl⟩) ?_
                                      refine h_cast (ci := 4) (q := (RX5, TX5, 2)) hx hb hown (hts _ q699) hK rfl (isO.of (hW.k6 (t) (j) (by omega) (by omega))) dX1_goes_194 ?_
                                      refine lv_astore (lv' := [(10, .ref (ad 6 (10 * t + j))), (9, .int (iI (j))), (8, .ref (ad 6 (10 * t + i))), (7, .int (iI (i))), (6, .ref (ad 4 (t))), (5, .int (iI (t))), (4, .int (iI (n))), (0, .ref (ad 0 (0))), (1, .int (iI (f))), (2, .int (iI (mi))), (3, .int (iI (most)))]) hx hb dX1_goes_197 hl (by decide) rfl (fun ls hl => ?_)
                                      refine lv_aload_n hx hb dX1_goes_199 rfl (lv_at hl 7 rfl) ?_
                                      refine h_get hx hb hts in_X1 hown hK hW.c0 rfl 5 (by decide) (hts _ q426) rfl (v := .ref (ad 0 (1))) rfl dX1_goes_200 ?_
                                      refine lv_iload hx hb dX1_goes_203 (lv_at hl 6 rfl) ?_
                                      refine lv_aload hx hb dX1_goes_205 (lv_at hl 0 rfl) ?_
                                      have b21 : N 9 (10 * t + j) < F 2 := hwf.1 _ _ (by omega) (by omega)
                                      refine h_getN hx hb hts in_X5 hown hK (hW.k6 (t) (j) (by omega) (by omega)) rfl 0 (by decide) q819 rfl (v := .ref (ad 3 (N 9 (10 * t + j)))) rfl dX1_goes_207 ?_
                                      refine h_getN hx hb hts in_X3 hown hK (hW.k3 (N 9 (10 * t + j)) (by omega)) rfl 0 (by decide) q459 rfl (v := .int (iI (N 9 (10 * t + j)))) rfl dX1_goes_210 ?_
                                      refine rc_V (W.runS (As := [.int (iI (n)), .int (iI (N 9 (10 * t + j)))]) (rest := [.ref (ad 0 (1))]) ⟨hx, hb, hml, hown, hts⟩ (cc_X1_at l D cA n (N 9 (10 * t + j)) ) (va_cwS 2 hts (lw_S q696 q697 q42 q698) rfl rfl rfl (by decide +kernel) ⟨Nat.le_of_ble_eq_true rfl, Nat.le_of_ble_eq_true rfl⟩) (preS hK (B := fun _ => True) trivial) rfl rfl hl.1 rfl (lv_room (Nat.le_of_ble_eq_true rfl)) dX1_goes_213 ⟨Nat.le_of_ble_eq_true rfl, Nat.le_of_ble_eq_true rfl⟩) ?_
                                      refine lv_aload_n hx hb dX1_goes_216 rfl (lv_at hl 7 rfl) ?_
                                      refine h_get hx hb hts in_X1 hown hK hW.c0 rfl 5 (by decide) (hts _ q426) rfl (v := .ref (ad 0 (1))) rfl dX1_goes_217 ?_
                                      refine lv_iload hx hb dX1_goes_220 (lv_at hl 6 rfl) ?_
                                      refine lv_aload hx hb dX1_goes_222 (lv_at hl 0 rfl) ?_
                                      refine h_getN hx hb hts in_X5 hown hK (hW.k6 (t) (j) (by omega) (by omega)) rfl 0 (by decide) q819 rfl (v := .ref (ad 3 (N 9 (10 * t + j)))) rfl dX1_goes_224 ?_
                                      refine h_getN hx hb hts in_X3 hown hK (hW.k3 (N 9 (10 * t + j)) (by omega)) rfl 0 (by decide) q459 rfl (v := .int (iI (N 9 (10 * t + j)))) rfl dX1_goes_227 ?_
                                      refine rc_V (W.runS (As := [.int (iI (n)), .int (iI (N 9 (10 * t + j)))]) (rest := [.ref (ad 0 (1)), .int (iI (10 * n + (N 9 (10 * t + j)))), .ref (ad 0 (1))]) ⟨hx, hb, hml, hown, hts⟩ (cc_X1_at l D cA n (N 9 (10 * t + j)) ) (va_cwS 2 hts (lw_S q696 q697 q42 q698) rfl rfl rfl (by decide +kernel) ⟨Nat.le_of_ble_eq_true rfl, Nat.le_of_ble_eq_true rfl⟩) (preS hK (B := fun _ => True) trivial) rfl rfl hl.1 rfl (lv_room (Nat.le_of_ble_eq_true rfl)) dX1_goes_230 ⟨Nat.le_of_ble_eq_true rfl, Nat.le_of_ble_eq_true rfl⟩) ?_
                                      refine h_iald hx hb hK hW.c1 (10 * n + N 9 (10 * t + j)) (by omega) (by omega) (by decide) dX1_goes_233 ?_
                                      refine W.eq (g2 := F0 m 234 ls [.int (iI (e5 (10 * n + N 9 (10 * t + j)))), .int (iI (10 * n + (N 9 (10 * t + j)))), .ref (ad 0 (1))]) rfl ?_
                                      have b22 : -1 ≤ e5 (10 * n + N 9 (10 * t + j)) ∧ e5 (10 * n + N 9 (10 * t + j)) ≤ 1000000 := heb1 _
                                      refine lv_aload hx hb dX1_goes_234 (lv_at hl 0 rfl) ?_
                                      refine rc_V (W.runV (As := []) (rest := [.int (iI (e5 (10 * n + N 9 (10 * t + j)))), .int (iI (10 * n + (N 9 (10 * t + j)))), .ref (ad 0 (1))]) ⟨hx, hb, hml, hown, hts⟩ (cc_X5_sorted l D cA A sa ad F N Z (va_up (E) 1 (e5)) K hKb hF hN hZ hwf t j (by omega) (by omega)) (cwV 0 hts (lw_V q700 q688 q689 q67 q690) rfl rfl rfl (by decide +kernel) ⟨Nat.le_of_ble_eq_true rfl, Nat.le_of_ble_eq_true rfl⟩) (preVC hK hSX hS (hW.k6 (t) (j) (by omega) (by omega)) rfl hW) rfl rfl hl.1 rfl (lv_room (Nat.le_of_ble_eq_true rfl)) dX1_goes_236 ⟨Nat.le_of_ble_eq_true rfl, Nat.le_of_ble_eq_true rfl⟩) ?_
                                      have b23 : behN N (10 * t + j) ≤ 1499 := behN_le hN _
                                      refine ri_mmin hx hb hml hl.1 hown (hts _ q701) (hts _ q212) (hts _ q55) (hts _ q213) (by unfold inR; omega) (by unfold inR; omega) (Nat.le_of_ble_eq_true rfl) (Nat.le_of_ble_eq_true rfl) (Nat.le_of_ble_eq_true rfl) (Nat.le_of_ble_eq_true rfl) dX1_goes_239 ?_
                                      refine c_stE1 hx hb hK hW hF3 hN hS (10 * n + N 9 (10 * t + j)) (by omega) (by omega) dX1_goes_242 (fun H locs hW hS => ?_)
                                      have hW : CW D cA A sa ad F N Z (va_up E 1 (gJ N n t e5 j)) H := hW
                                      have heb1 : eb (gJ N n t e5 j) := gJ_eb hN heb1
                                      refine lv_iinc (v := iI ((j + 1 : Nat))) (lv' := [(9, .int (iI ((j + 1 : Nat)))), (10, .ref (ad 6 (10 * t + j))), (8, .ref (ad 6 (10 * t + i))), (7, .int (iI (i))), (6, .ref (ad 4 (t))), (5, .int (iI (t))), (4, .int (iI (n))), (0, .ref (ad 0 (0))), (1, .int (iI (f))), (2, .int (iI (mi))), (3, .int (iI (most)))]) hx hb dX1_goes_243 hl (k := 1) rfl (iI_succ _) (by decide) rfl (fun ls hl => ?_)
                                      refine lv_goto (tgt := 153) hx hb dX1_goes_246 (by decide) ?_
                                      exact ih153 (j + 1) (gJ N n t e5 j) (by omega) (by omega) heb1 hf5 (by omega) _ _ _ hW hS (lv_sub hl [0, 2, 3, 4, 5, 6, 7, 8, 9, 10] rfl)
                              exact lp153 _ (i + 1) (e4) (Nat.le_refl _) (by omega) heb1 (by unfold gI; rw [if_neg (by omega)]) (Nat.lt_succ_self _) _ _ _ hW hS (lv_sub hl [0, 1, 2, 3, 4, 5, 6, 7, 8, 9] rfl)
                            · skip
                              refine lv_goto (tgt := 249) hx hb dX1_goes_144 (by decide) ?_
                              refine lv_iinc (v := iI ((i + 1 : Nat))) (lv' := [(7, .int (iI ((i + 1 : Nat)))), (8, .ref (ad 6 (10 * t + i))), (6, .ref (ad 4 (t))), (5, .int (iI (t))), (4, .int (iI (n))), (0, .ref (ad 0 (0))), (1, .int (iI (f))), (2, .int (iI (mi))), (3, .int (iI (most)))]) hx hb dX1_goes_249 hl (k := 1) rfl (iI_succ _) (by decide) rfl (fun ls hl => ?_)
                              refine lv_goto (tgt := 80) hx hb dX1_goes_252 (by decide) ?_
                              have hg : gI N Z n t e4 i = e4 := by unfold gI; rw [if_pos (by omega)]
                              rw [show N 8 t - i = (N 8 t - (i + 1)) + 1 by omega, gIs, hg] at hf4
                              exact ih80 (i + 1) (e4) (by omega) heb1 (fun q => absurd hcn q) hf4 (by omega) _ _ _ hW hS (lv_sub hl [0, 2, 3, 4, 5, 6, 7, 8] rfl)
                    exact lp80 _ (0) (e3) (Nat.zero_le _) heb1 (fun _ => ⟨rfl, rfl⟩) rfl (Nat.lt_succ_self _) _ _ _ hW hS (lv_sub hl [0, 1, 2, 3, 4, 5, 6, 7] rfl)
              exact lp51 _ (0) (e2) (Nat.zero_le _) heb1 rfl (Nat.lt_succ_self _) _ _ _ hW hS (lv_sub hl [0, 1, 2, 3, 4, 5] rfl)
        exact lp42 _ (1) (va_up (fun _ => (1000000 : Int)) f (mi : Int)) (Nat.le_refl _) (by omega) heb1 (by rw [Nat.add_sub_cancel]; rfl) (Nat.lt_succ_self _) _ _ _ hW hS (lv_sub hl [0, 1, 2, 3, 4] rfl)
      · skip
        refine lv_aload_n hx hb dX1_goes_13 rfl (lv_at hl 1 rfl) ?_
        refine h_get hx hb hts in_X1 hown hK hW.c0 rfl 5 (by decide) (hts _ q426) rfl (v := .ref (ad 0 (1))) rfl dX1_goes_14 ?_
        refine lv_iload hx hb dX1_goes_17 (lv_at hl 0 rfl) ?_
        refine lv_ldc (v := iI (1000000)) hx hb hown (show (Cond.constant RX1 123 (iI (1000000))).before _ s = true from hts _ q695) dX1_goes_19 ?_
        refine c_stE1 hx hb hK hW hF3 hN hS (k) (by omega) (by omega) dX1_goes_21 (fun H locs hW hS => ?_)
        refine lv_iinc (v := iI ((k + 1 : Nat))) (lv' := [(4, .int (iI ((k + 1 : Nat)))), (0, .ref (ad 0 (0))), (1, .int (iI (f))), (2, .int (iI (mi))), (3, .int (iI (most)))]) hx hb dX1_goes_22 hl (k := 0) rfl (iI_succ _) (by decide) rfl (fun ls hl => ?_)
        refine lv_goto (tgt := 3) hx hb dX1_goes_25 (by decide) ?_
        rw [fl_up] at hW
        exact ih3 (k + 1) (by omega) (by omega) _ _ _ hW hS (lv_sub hl [0, 1, 2, 3, 4] rfl)
  rw [show E = va_up E 1 (fl 1000000 (E 1) 0) from by rw [fl_0, va_up_eta]] at hW
  exact lp3 _ (0) (Nat.zero_le _) (Nat.lt_succ_self _) _ _ _ hW hS (lv_sub hl [0, 1, 2, 3, 4] rfl)

set_option maxHeartbeats 4000000 in
set_option maxRecDepth 100000 in
theorem cc_X1_comes (l : Launch) (D : va_G) (cA : Nat → ClassId) (A : Nat → Prop) (sa : Nat → Nat) (ad : Nat → Nat → Nat) (F : Nat → Nat) (N : Nat → Nat → Nat) (Z : Nat → Int) (E : Nat → Nat → Int) (K : Nat) (hKb : K ≤ 1000000) (hF : FB F) (hN : NB N) (hZ : ZB K Z) (hwf : WF F N) (to best few : Nat) (hf9 : to < F 2) (hmi : best ≤ 2000) (hmo : few ≤ 3) : Met l yX1_comes (ws_ yX1_comes cX1_comes 8 none) ({ frames := 5, cells := 0, slots := 0, locals := 128 }) (PC D cA A sa ad F N Z E [.ref (ad 0 (0)), .int (iI (to)), .int (iI (best)), .int (iI (few))]) (Qn (fun H' => eb (cAll (F 3) N Z to best few) ∧ CW D cA A sa ad F N Z (va_up E 2 (cAll (F 3) N Z to best few)) H') A) 0 0 (A) := by
  refine Met.ofW (cc := cX1_comes) (maxL := 8) (ret := none) (by decide) rfl ?_
  intro p e s m args below meth c s₁ B hml hv
  obtain ⟨rfl, hK, hW⟩ := hv
  have hx := B.exec
  have hb := B.bytes
  have hr := B.returns
  have hts := atoms_spec (ws := ws_ yX1_comes cX1_comes 8 none) B.pre
  have hts : ∀ w ∈ lw_all, w.before _ s = true := fun w h => hts w (List.mem_cons_of_mem _ h)
  have hown : s.vm.findClass RX1 = some m.cls := findClass_of_methodNamed B.named
  have hlocks := B.notSynchronized
  have hl := lv_entry ([.ref (ad 0 (0)), .int (iI (to)), .int (iI (best)), .int (iI (few))]) (n := 8) (Nat.le_of_ble_eq_true rfl)
  rw [lg_entry_eq]
  generalize (lg_sl ([.ref (ad 0 (0)), .int (iI (to)), .int (iI (best)), .int (iI (few))]) ++ List.replicate (8 - (lg_sl ([.ref (ad 0 (0)), .int (iI (to)), .int (iI (best)), .int (iI (few))])).length) Slot.unset).toArray = ls at hl ⊢
  have hl : lv_has ls 8 [(0, .ref (ad 0 (0))), (1, .int (iI (to))), (2, .int (iI (best))), (3, .int (iI (few)))] := hl
  obtain ⟨hSX, hW⟩ := hW
  have hS : va_S A s.heap s.heap [] := va_S.rf
  have hF2 : F 2 ≤ 10 := hF 2
  have hF3 : F 3 ≤ 16 := hF 3
  have hF4 : F 4 ≤ 60 := hF 4
  have hF5 : F 5 ≤ 40 := hF 5
  have hF1 : F 1 ≤ 1439 := hF 1
  refine lv_iconst (v := iI (0)) hx hb dX1_comes_0 rfl ?_
  refine lv_istore (lv' := [(4, .int (iI (0))), (0, .ref (ad 0 (0))), (1, .int (iI (to))), (2, .int (iI (best))), (3, .int (iI (few)))]) hx hb dX1_comes_1 hl (by decide) rfl (fun ls hl => ?_)
  have lp3 : ∀ (fuel : Nat) (k : Nat) (hk : k ≤ 40), 40 - k < fuel → ∀ (H : Heap) (locs : List Loc) (ls : Array Slot), CW D cA A sa ad F N Z (va_up (E) 2 (fl (-1) (E 2) k)) H → va_S A s.heap H locs → lv_has ls 8 [(4, .int (iI (k))), (0, .ref (ad 0 (0))), (1, .int (iI (to))), (2, .int (iI (best))), (3, .int (iI (few)))] → W p l e (headSpec (ws_ yX1_comes cX1_comes 8 none) ({ frames := 5, cells := 0, slots := 0, locals := 128 })).room s m ([.ref (ad 0 (0)), .int (iI (to)), .int (iI (best)), .int (iI (few))] : List Value).toArray below meth c H locs 0 0 (MQ below (Qn (fun H' => eb (cAll (F 3) N Z to best few) ∧ CW D cA A sa ad F N Z (va_up E 2 (cAll (F 3) N Z to best few)) H') A) ([.ref (ad 0 (0)), .int (iI (to)), .int (iI (best)), .int (iI (few))] : List Value).toArray s 0 0 (A)) (F0 m 3 ls []) := by
    intro fuel
    induction fuel with
    | zero => intro k hk hm; exact absurd hm (Nat.not_lt_zero _)
    | succ fuel ih3 =>
      intro k hk hm3 H locs ls hW hS hl
      refine lv_iload hx hb dX1_comes_3 (lv_at hl 0 rfl) ?_
      refine lv_aload_n hx hb dX1_comes_5 rfl (lv_at hl 1 rfl) ?_
      refine h_get hx hb hts in_X1 hown hK hW.c0 rfl 6 (by decide) (hts _ q427) rfl (v := .ref (ad 0 (2))) rfl dX1_comes_6 ?_
      refine h_alen hx hb hK 0 rfl hW.c2 dX1_comes_9 ?_
      refine W.eq (g2 := F0 m 10 ls [.int (iI (40)), .int (iI (k))]) rfl ?_
      refine ri_icmp_ge (tgt := 27) hx hb (by unfold inR; omega) (by unfold inR; omega) dX1_comes_10 (by decide) (fun h1 => ?_) (fun h1 => ?_)
      · skip
        have hW := hW.toE2 hF3 hN (e' := fun _ => -1) (fun j hj => by unfold fl; rw [if_pos (by omega)])
        refine lv_aload_n hx hb dX1_comes_27 rfl (lv_at hl 1 rfl) ?_
        refine h_get hx hb hts in_X1 hown hK hW.c0 rfl 6 (by decide) (hts _ q427) rfl (v := .ref (ad 0 (2))) rfl dX1_comes_28 ?_
        refine lv_iconst (v := iI (0)) hx hb dX1_comes_31 rfl ?_
        refine lv_iload_n hx hb dX1_comes_32 rfl (lv_at hl 2 rfl) ?_
        refine rc_V (W.runS (As := [.int (iI (0)), .int (iI (to))]) (rest := [.ref (ad 0 (2))]) ⟨hx, hb, hml, hown, hts⟩ (cc_X1_at l D cA 0 to ) (va_cwS 2 hts (lw_S q696 q697 q42 q698) rfl rfl rfl (by decide +kernel) ⟨Nat.le_of_ble_eq_true rfl, Nat.le_of_ble_eq_true rfl⟩) (preS hK (B := fun _ => True) trivial) rfl rfl hl.1 rfl (lv_room (Nat.le_of_ble_eq_true rfl)) dX1_comes_33 ⟨Nat.le_of_ble_eq_true rfl, Nat.le_of_ble_eq_true rfl⟩) ?_
        refine lv_iload_n hx hb dX1_comes_36 rfl (lv_at hl 3 rfl) ?_
        refine c_stE2 hx hb hK hW hF3 hN hS (to) (by omega) (by omega) dX1_comes_37 (fun H locs hW hS => ?_)
        have heb2 : eb (va_up (fun _ => (-1 : Int)) to (best : Int)) := eb.up (fun _ => ⟨by decide, by decide⟩) (by omega) (by omega)
        refine lv_iconst (v := iI (1)) hx hb dX1_comes_38 rfl ?_
        refine lv_istore (lv' := [(4, .int (iI (1))), (0, .ref (ad 0 (0))), (1, .int (iI (to))), (2, .int (iI (best))), (3, .int (iI (few)))]) hx hb dX1_comes_39 hl (by decide) rfl (fun ls hl => ?_)
        have lp41 : ∀ (fuel : Nat) (n : Nat) (e2 : Nat → Int) (hn1 : 1 ≤ n) (hn2 : n ≤ few + 1) (heb2 : eb e2) (hf2 : cNs N Z (F 3) (few + 1 - n) n e2 = cAll (F 3) N Z to best few), few + 1 - n < fuel → ∀ (H : Heap) (locs : List Loc) (ls : Array Slot), CW D cA A sa ad F N Z (va_up (E) 2 (e2)) H → va_S A s.heap H locs → lv_has ls 8 [(4, .int (iI (n))), (0, .ref (ad 0 (0))), (1, .int (iI (to))), (2, .int (iI (best))), (3, .int (iI (few)))] → W p l e (headSpec (ws_ yX1_comes cX1_comes 8 none) ({ frames := 5, cells := 0, slots := 0, locals := 128 })).room s m ([.ref (ad 0 (0)), .int (iI (to)), .int (iI (best)), .int (iI (few))] : List Value).toArray below meth c H locs 0 0 (MQ below (Qn (fun H' => eb (cAll (F 3) N Z to best few) ∧ CW D cA A sa ad F N Z (va_up E 2 (cAll (F 3) N Z to best few)) H') A) ([.ref (ad 0 (0)), .int (iI (to)), .int (iI (best)), .int (iI (few))] : List Value).toArray s 0 0 (A)) (F0 m 41 ls []) := by
          intro fuel
          induction fuel with
          | zero => intro n e2 hn1 hn2 heb2 hf2 hm; exact absurd hm (Nat.not_lt_zero _)
          | succ fuel ih41 =>
            intro n e2 hn1 hn2 heb2 hf2 hm41 H locs ls hW hS hl
            refine lv_iload hx hb dX1_comes_41 (lv_at hl 0 rfl) ?_
            refine lv_iload_n hx hb dX1_comes_43 rfl (lv_at hl 4 rfl) ?_
            refine ri_icmp_gt (tgt := 210) hx hb (by unfold inR; omega) (by unfold inR; omega) dX1_comes_44 (by decide) (fun h2 => ?_) (fun h2 => ?_)
            · skip
              rw [show few + 1 - n = 0 by omega] at hf2
              have hf2 : e2 = cAll (F 3) N Z to best few := hf2
              exact W.vret hx hb hr (fun tt htt hWm => ⟨⟨rfl, by rw [htt]; exact (hf2 ▸ ⟨heb2, hW⟩)⟩, hS.F htt⟩) hS.2.2 dX1_comes_210
            · skip
              refine lv_iconst (v := iI (0)) hx hb dX1_comes_47 rfl ?_
              refine lv_istore (lv' := [(5, .int (iI (0))), (4, .int (iI (n))), (0, .ref (ad 0 (0))), (1, .int (iI (to))), (2, .int (iI (best))), (3, .int (iI (few)))]) hx hb dX1_comes_48 hl (by decide) rfl (fun ls hl => ?_)
              have lp50 : ∀ (fuel : Nat) (t : Nat) (e3 : Nat → Int) (ht : t ≤ F 3) (heb2 : eb e3) (hf3 : cTs N Z n (F 3 - t) t e3 = cTs N Z n (F 3) 0 e2), F 3 - t < fuel → ∀ (H : Heap) (locs : List Loc) (ls : Array Slot), CW D cA A sa ad F N Z (va_up (E) 2 (e3)) H → va_S A s.heap H locs → lv_has ls 8 [(5, .int (iI (t))), (4, .int (iI (n))), (0, .ref (ad 0 (0))), (1, .int (iI (to))), (2, .int (iI (best))), (3, .int (iI (few)))] → W p l e (headSpec (ws_ yX1_comes cX1_comes 8 none) ({ frames := 5, cells := 0, slots := 0, locals := 128 })).room s m ([.ref (ad 0 (0)), .int (iI (to)), .int (iI (best)), .int (iI (few))] : List Value).toArray below meth c H locs 0 0 (MQ below (Qn (fun H' => eb (cAll (F 3) N Z to best few) ∧ CW D cA A sa ad F N Z (va_up E 2 (cAll (F 3) N Z to best few)) H') A) ([.ref (ad 0 (0)), .int (iI (to)), .int (iI (best)), .int (iI (few))] : List Value).toArray s 0 0 (A)) (F0 m 50 ls []) := by
                intro fuel
                induction fuel with
                | zero => intro t e3 ht heb2 hf3 hm; exact absurd hm (Nat.not_lt_zero _)
                | succ fuel ih50 =>
                  intro t e3 ht heb2 hf3 hm50 H locs ls hW hS hl
                  refine lv_iload hx hb dX1_comes_50 (lv_at hl 0 rfl) ?_
                  refine lv_aload_n hx hb dX1_comes_52 rfl (lv_at hl 2 rfl) ?_
                  refine h_get hx hb hts in_X1 hown hK hW.c0 rfl 1 (by decide) (hts _ q422) rfl (v := .ref (ad 1 (1))) rfl dX1_comes_53 ?_
                  obtain ⟨mc3, cp3, cq3, cr3, hLi3⟩ := hW.l1
                  refine rc_V (W.runV (As := []) (rest := [.int (iI (t))]) ⟨hx, hb, hml, hown, hts⟩ (al_size l D cA (ad 1 (1)) mc3 (ad 2 (1)) (F 3)) (cwV 0 hts (lw_V q448 q449 q450 q45 q451) rfl rfl rfl (by decide +kernel) ⟨Nat.le_of_ble_eq_true rfl, Nat.le_of_ble_eq_true rfl⟩) (preV hK hLi3.1 rfl hLi3.1) rfl rfl hl.1 rfl (lv_room (Nat.le_of_ble_eq_true rfl)) dX1_comes_56 ⟨Nat.le_of_ble_eq_true rfl, Nat.le_of_ble_eq_true rfl⟩) ?_
                  refine ri_icmp_ge (tgt := 204) hx hb (by unfold inR; omega) (by unfold inR; omega) dX1_comes_59 (by decide) (fun h4 => ?_) (fun h4 => ?_)
                  · skip
                    refine lv_iinc (v := iI ((n + 1 : Nat))) (lv' := [(4, .int (iI ((n + 1 : Nat)))), (5, .int (iI (t))), (0, .ref (ad 0 (0))), (1, .int (iI (to))), (2, .int (iI (best))), (3, .int (iI (few)))]) hx hb dX1_comes_204 hl (k := 1) rfl (iI_succ _) (by decide) rfl (fun ls hl => ?_)
                    refine lv_goto (tgt := 41) hx hb dX1_comes_207 (by decide) ?_
                    rw [show F 3 - t = 0 by omega] at hf3
                    have hf3 : e3 = cTs N Z n (F 3) 0 e2 := hf3
                    rw [show few + 1 - n = (few + 1 - (n + 1)) + 1 by omega, cNs, ← hf3] at hf2
                    exact ih41 (n + 1) (e3) (by omega) (by omega) heb2 hf2 (by omega) _ _ _ hW hS (lv_sub hl [0, 2, 3, 4, 5] rfl)
                  · skip
                    refine lv_aload_n hx hb dX1_comes_62 rfl (lv_at hl 2 rfl) ?_
                    refine h_get hx hb hts in_X1 hown hK hW.c0 rfl 1 (by decide) (hts _ q422) rfl (v := .ref (ad 1 (1))) rfl dX1_comes_63 ?_
                    refine lv_iload hx hb dX1_comes_66 (lv_at hl 0 rfl) ?_
                    obtain ⟨mc5, cp5, cq5, cr5, hLi5⟩ := hW.l1
                    refine rc_V (W.runV (As := [.int (iI (t))]) (rest := []) ⟨hx, hb, hml, hown, hts⟩ (al_get l D cA (ad 1 (1)) mc5 (ad 2 (1)) (F 3) cp5 (ad 4) (t) (by omega)) (cwV 1 hts (lw_V q565 q566 q567 q45 q568) rfl rfl rfl (by decide +kernel) ⟨Nat.le_of_ble_eq_true rfl, Nat.le_of_ble_eq_true rfl⟩) (preV hK hLi5.1 rfl hLi5) rfl rfl hl.1 rfl (lv_room (Nat.le_of_ble_eq_true rfl)) dX1_comes_68 ⟨Nat.le_of_ble_eq_true rfl, Nat.le_of_ble_eq_true rfl⟩) ?_
                    refine h_cast (ci := 3) (q := (RX4, TX4, 6)) hx hb hown (hts _ q519) hK rfl (isO.of (hW.k4 (t) (by omega))) dX1_comes_71 ?_
                    refine lv_astore (lv' := [(6, .ref (ad 4 (t))), (5, .int (iI (t))), (4, .int (iI (n))), (0, .ref (ad 0 (0))), (1, .int (iI (to))), (2, .int (iI (best))), (3, .int (iI (few)))]) hx hb dX1_comes_74 hl (by decide) rfl (fun ls hl => ?_)
                    refine lv_iconst (v := iI (0)) hx hb dX1_comes_76 rfl ?_
                    refine lv_istore (lv' := [(7, .int (iI (0))), (6, .ref (ad 4 (t))), (5, .int (iI (t))), (4, .int (iI (n))), (0, .ref (ad 0 (0))), (1, .int (iI (to))), (2, .int (iI (best))), (3, .int (iI (few)))]) hx hb dX1_comes_77 hl (by decide) rfl (fun ls hl => ?_)
                    have lp79 : ∀ (fuel : Nat) (i : Nat) (e4 : Nat → Int) (hi : i ≤ N 8 t) (heb2 : eb e4) (hc4 : N 13 t ≠ 0 → i = 0 ∧ e4 = e3) (hf4 : cIs N Z n t (N 8 t - i) i e4 = cIs N Z n t (N 8 t) 0 e3), N 8 t - i < fuel → ∀ (H : Heap) (locs : List Loc) (ls : Array Slot), CW D cA A sa ad F N Z (va_up (E) 2 (e4)) H → va_S A s.heap H locs → lv_has ls 8 [(7, .int (iI (i))), (6, .ref (ad 4 (t))), (5, .int (iI (t))), (4, .int (iI (n))), (0, .ref (ad 0 (0))), (1, .int (iI (to))), (2, .int (iI (best))), (3, .int (iI (few)))] → W p l e (headSpec (ws_ yX1_comes cX1_comes 8 none) ({ frames := 5, cells := 0, slots := 0, locals := 128 })).room s m ([.ref (ad 0 (0)), .int (iI (to)), .int (iI (best)), .int (iI (few))] : List Value).toArray below meth c H locs 0 0 (MQ below (Qn (fun H' => eb (cAll (F 3) N Z to best few) ∧ CW D cA A sa ad F N Z (va_up E 2 (cAll (F 3) N Z to best few)) H') A) ([.ref (ad 0 (0)), .int (iI (to)), .int (iI (best)), .int (iI (few))] : List Value).toArray s 0 0 (A)) (F0 m 79 ls []) := by
                      intro fuel
                      induction fuel with
                      | zero => intro i e4 hi heb2 hc4 hf4 hm; exact absurd hm (Nat.not_lt_zero _)
                      | succ fuel ih79 =>
                        intro i e4 hi heb2 hc4 hf4 hm79 H locs ls hW hS hl
                        have hm8 : N 8 t ≤ 10 := hN 8 t
                        refine lv_iload hx hb dX1_comes_79 (lv_at hl 0 rfl) ?_
                        refine lv_aload hx hb dX1_comes_81 (lv_at hl 1 rfl) ?_
                        refine h_getN hx hb hts in_X4 hown hK (hW.k4 (t) (by omega)) rfl 2 (by decide) q533 rfl (v := .ref (ad 1 (10 + t))) rfl dX1_comes_83 ?_
                        have b7 : N 8 (t) ≤ 10 := hN 8 _
                        obtain ⟨mc6, cp6, cq6, cr6, hLi6⟩ := (hW.lp (t) (by omega))
                        refine rc_V (W.runV (As := []) (rest := [.int (iI (i))]) ⟨hx, hb, hml, hown, hts⟩ (al_size l D cA (ad 1 (10 + t)) mc6 (ad 2 (10 + t)) (N 8 (t))) (cwV 0 hts (lw_V q448 q449 q450 q45 q451) rfl rfl rfl (by decide +kernel) ⟨Nat.le_of_ble_eq_true rfl, Nat.le_of_ble_eq_true rfl⟩) (preV hK hLi6.1 rfl hLi6.1) rfl rfl hl.1 rfl (lv_room (Nat.le_of_ble_eq_true rfl)) dX1_comes_86 ⟨Nat.le_of_ble_eq_true rfl, Nat.le_of_ble_eq_true rfl⟩) ?_
                        refine ri_icmp_ge (tgt := 198) hx hb (by unfold inR; omega) (by unfold inR; omega) dX1_comes_89 (by decide) (fun h8 => ?_) (fun h8 => ?_)
                        · skip
                          refine lv_iinc (v := iI ((t + 1 : Nat))) (lv' := [(5, .int (iI ((t + 1 : Nat)))), (7, .int (iI (i))), (6, .ref (ad 4 (t))), (4, .int (iI (n))), (0, .ref (ad 0 (0))), (1, .int (iI (to))), (2, .int (iI (best))), (3, .int (iI (few)))]) hx hb dX1_comes_198 hl (k := 2) rfl (iI_succ _) (by decide) rfl (fun ls hl => ?_)
                          refine lv_goto (tgt := 50) hx hb dX1_comes_201 (by decide) ?_
                          have hg := cT_back (by omega) hc4 hf4
                          rw [show F 3 - t = (F 3 - (t + 1)) + 1 by omega, cTs, hg] at hf3
                          exact ih50 (t + 1) (e4) (by omega) heb2 hf3 (by omega) _ _ _ hW hS (lv_sub hl [0, 3, 4, 5, 6, 7] rfl)
                        · skip
                          refine lv_aload hx hb dX1_comes_92 (lv_at hl 1 rfl) ?_
                          have b9 : N 13 (t) ≤ 1 := hN 13 _
                          refine h_getN hx hb hts in_X4 hown hK (hW.k4 (t) (by omega)) rfl 4 (by decide) q536 rfl (v := .int (iI (N 13 (t)))) rfl dX1_comes_94 ?_
                          refine ri_if_ne (tgt := 198) hx hb (by unfold inR; omega) dX1_comes_97 (by decide) (fun hcx => ?_) (fun hcx => ?_)
                          · skip
                            refine lv_iinc (v := iI ((t + 1 : Nat))) (lv' := [(5, .int (iI ((t + 1 : Nat)))), (7, .int (iI (i))), (6, .ref (ad 4 (t))), (4, .int (iI (n))), (0, .ref (ad 0 (0))), (1, .int (iI (to))), (2, .int (iI (best))), (3, .int (iI (few)))]) hx hb dX1_comes_198 hl (k := 2) rfl (iI_succ _) (by decide) rfl (fun ls hl => ?_)
                            refine lv_goto (tgt := 50) hx hb dX1_comes_201 (by decide) ?_
                            have hg := cT_back (by omega) hc4 hf4
                            rw [show F 3 - t = (F 3 - (t + 1)) + 1 by omega, cTs, hg] at hf3
                            exact ih50 (t + 1) (e4) (by omega) heb2 hf3 (by omega) _ _ _ hW hS (lv_sub hl [0, 3, 4, 5, 6, 7] rfl)
                          · skip
                            have hcn : N 13 t = 0 := by omega
                            refine lv_aload_n hx hb dX1_comes_100 rfl (lv_at hl 4 rfl) ?_
                            refine lv_aload hx hb dX1_comes_101 (lv_at hl 1 rfl) ?_
                            refine lv_iload hx hb dX1_comes_103 (lv_at hl 0 rfl) ?_
                            refine lv_iload hx hb dX1_comes_105 (lv_at hl 3 rfl) ?_
                            refine rc_V (W.runV (As := [.ref (ad 4 (t)), .int (iI (i)), .int (iI (n))]) (rest := []) ⟨hx, hb, hml, hown, hts⟩ (cc_X1_leads_2 l D cA A sa ad F N Z (va_up (E) 2 (e4)) K hKb hF hN hZ hwf t i n (by omega) (by omega) (by omega) (by omega) hcn heb2) (cwV 3 hts (lw_V q706 q708 qs8 q42 q709) rfl rfl rfl (by decide +kernel) ⟨Nat.le_of_ble_eq_true rfl, Nat.le_of_ble_eq_true rfl⟩) (preVC hK hSX hS hW.c0 rfl hW) rfl rfl hl.1 rfl (lv_room (Nat.le_of_ble_eq_true rfl)) dX1_comes_107 ⟨Nat.le_of_ble_eq_true rfl, Nat.le_of_ble_eq_true rfl⟩) ?_
                            refine W.eq (g2 := F0 m 110 ls [.int (iI (ldF N Z e4 n t i))]) rfl ?_
                            have hldr := ldF_rng N Z e4 n t i
                            refine lv_iload hx hb dX1_comes_110 (lv_at hl 0 rfl) ?_
                            refine ri_icmp_le (tgt := 192) hx hb (by unfold inR; omega) (by unfold inR; omega) dX1_comes_112 (by decide) (fun h10 => ?_) (fun h10 => ?_)
                            · skip
                              refine lv_iinc (v := iI ((i + 1 : Nat))) (lv' := [(7, .int (iI ((i + 1 : Nat)))), (6, .ref (ad 4 (t))), (5, .int (iI (t))), (4, .int (iI (n))), (0, .ref (ad 0 (0))), (1, .int (iI (to))), (2, .int (iI (best))), (3, .int (iI (few)))]) hx hb dX1_comes_192 hl (k := 0) rfl (iI_succ _) (by decide) rfl (fun ls hl => ?_)
                              refine lv_goto (tgt := 79) hx hb dX1_comes_195 (by decide) ?_
                              have hg : cI N Z n t e4 i = e4 := by unfold cI; rw [if_neg (by omega)]
                              rw [show N 8 t - i = (N 8 t - (i + 1)) + 1 by omega, cIs, hg] at hf4
                              exact ih79 (i + 1) (e4) (by omega) heb2 (fun q => absurd hcn q) hf4 (by omega) _ _ _ hW hS (lv_sub hl [0, 1, 2, 3, 4, 5, 6, 7] rfl)
                            · skip
                              refine lv_aload_n hx hb dX1_comes_115 rfl (lv_at hl 4 rfl) ?_
                              refine h_get hx hb hts in_X1 hown hK hW.c0 rfl 6 (by decide) (hts _ q427) rfl (v := .ref (ad 0 (2))) rfl dX1_comes_116 ?_
                              refine lv_iload hx hb dX1_comes_119 (lv_at hl 3 rfl) ?_
                              refine lv_aload hx hb dX1_comes_121 (lv_at hl 1 rfl) ?_
                              refine h_getN hx hb hts in_X4 hown hK (hW.k4 (t) (by omega)) rfl 2 (by decide) q533 rfl (v := .ref (ad 1 (10 + t))) rfl dX1_comes_123 ?_
                              refine lv_iload hx hb dX1_comes_126 (lv_at hl 0 rfl) ?_
                              obtain ⟨mc11, cp11, cq11, cr11, hLi11⟩ := (hW.lp (t) (by omega))
                              refine rc_V (W.runV (As := [.int (iI (i))]) (rest := [.int (iI (n)), .ref (ad 0 (2))]) ⟨hx, hb, hml, hown, hts⟩ (al_get l D cA (ad 1 (10 + t)) mc11 (ad 2 (10 + t)) (N 8 (t)) cp11 (fun j => ad 6 (10 * t + j)) (i) (by omega)) (cwV 1 hts (lw_V q565 q566 q567 q45 q568) rfl rfl rfl (by decide +kernel) ⟨Nat.le_of_ble_eq_true rfl, Nat.le_of_ble_eq_true rfl⟩) (preV hK hLi11.1 rfl hLi11) rfl rfl hl.1 rfl (lv_room (Nat.le_of_ble_eq_true rfl)) dX1_comes_128 ⟨Nat.le_of_ble_eq_true rfl, Nat.le_of_ble_eq_true rfl⟩) ?_
                              refine h_cast (ci := 4) (q := (RX5, TX5, 2)) hx hb hown (hts _ q699) hK rfl (isO.of (hW.k6 (t) (i) (by omega) (by omega))) dX1_comes_131 ?_
                              have b12 : N 9 (10 * t + i) < F 2 := hwf.1 _ _ (by omega) (by omega)
                              refine h_getN hx hb hts in_X5 hown hK (hW.k6 (t) (i) (by omega) (by omega)) rfl 0 (by decide) q819 rfl (v := .ref (ad 3 (N 9 (10 * t + i)))) rfl dX1_comes_134 ?_
                              refine h_getN hx hb hts in_X3 hown hK (hW.k3 (N 9 (10 * t + i)) (by omega)) rfl 0 (by decide) q459 rfl (v := .int (iI (N 9 (10 * t + i)))) rfl dX1_comes_137 ?_
                              refine rc_V (W.runS (As := [.int (iI (n)), .int (iI (N 9 (10 * t + i)))]) (rest := [.ref (ad 0 (2))]) ⟨hx, hb, hml, hown, hts⟩ (cc_X1_at l D cA n (N 9 (10 * t + i)) ) (va_cwS 2 hts (lw_S q696 q697 q42 q698) rfl rfl rfl (by decide +kernel) ⟨Nat.le_of_ble_eq_true rfl, Nat.le_of_ble_eq_true rfl⟩) (preS hK (B := fun _ => True) trivial) rfl rfl hl.1 rfl (lv_room (Nat.le_of_ble_eq_true rfl)) dX1_comes_140 ⟨Nat.le_of_ble_eq_true rfl, Nat.le_of_ble_eq_true rfl⟩) ?_
                              refine lv_aload_n hx hb dX1_comes_143 rfl (lv_at hl 4 rfl) ?_
                              refine h_get hx hb hts in_X1 hown hK hW.c0 rfl 6 (by decide) (hts _ q427) rfl (v := .ref (ad 0 (2))) rfl dX1_comes_144 ?_
                              refine lv_iload hx hb dX1_comes_147 (lv_at hl 3 rfl) ?_
                              refine lv_aload hx hb dX1_comes_149 (lv_at hl 1 rfl) ?_
                              refine h_getN hx hb hts in_X4 hown hK (hW.k4 (t) (by omega)) rfl 2 (by decide) q533 rfl (v := .ref (ad 1 (10 + t))) rfl dX1_comes_151 ?_
                              refine lv_iload hx hb dX1_comes_154 (lv_at hl 0 rfl) ?_
                              obtain ⟨mc13, cp13, cq13, cr13, hLi13⟩ := (hW.lp (t) (by omega))
                              refine rc_V (W.runV (As := [.int (iI (i))]) (rest := [.int (iI (n)), .ref (ad 0 (2)), .int (iI (10 * n + (N 9 (10 * t + i)))), .ref (ad 0 (2))]) ⟨hx, hb, hml, hown, hts⟩ (al_get l D cA (ad 1 (10 + t)) mc13 (ad 2 (10 + t)) (N 8 (t)) cp13 (fun j => ad 6 (10 * t + j)) (i) (by omega)) (cwV 1 hts (lw_V q565 q566 q567 q45 q568) rfl rfl rfl (by decide +kernel) ⟨Nat.le_of_ble_eq_true rfl, Nat.le_of_ble_eq_true rfl⟩) (preV hK hLi13.1 rfl hLi13) rfl rfl hl.1 rfl (lv_room (Nat.le_of_ble_eq_true rfl)) dX1_comes_156 ⟨Nat.le_of_ble_eq_true rfl, Nat.le_of_ble_eq_true rfl⟩) ?_
                              refine h_cast (ci := 4) (q := (RX5, TX5, 2)) hx hb hown (hts _ q699) hK rfl (isO.of (hW.k6 (t) (i) (by omega) (by omega))) dX1_comes_159 ?_
                              refine h_getN hx hb hts in_X5 hown hK (hW.k6 (t) (i) (by omega) (by omega)) rfl 0 (by decide) q819 rfl (v := .ref (ad 3 (N 9 (10 * t + i)))) rfl dX1_comes_162 ?_
                              refine h_getN hx hb hts in_X3 hown hK (hW.k3 (N 9 (10 * t + i)) (by omega)) rfl 0 (by decide) q459 rfl (v := .int (iI (N 9 (10 * t + i)))) rfl dX1_comes_165 ?_
                              refine rc_V (W.runS (As := [.int (iI (n)), .int (iI (N 9 (10 * t + i)))]) (rest := [.ref (ad 0 (2)), .int (iI (10 * n + (N 9 (10 * t + i)))), .ref (ad 0 (2))]) ⟨hx, hb, hml, hown, hts⟩ (cc_X1_at l D cA n (N 9 (10 * t + i)) ) (va_cwS 2 hts (lw_S q696 q697 q42 q698) rfl rfl rfl (by decide +kernel) ⟨Nat.le_of_ble_eq_true rfl, Nat.le_of_ble_eq_true rfl⟩) (preS hK (B := fun _ => True) trivial) rfl rfl hl.1 rfl (lv_room (Nat.le_of_ble_eq_true rfl)) dX1_comes_168 ⟨Nat.le_of_ble_eq_true rfl, Nat.le_of_ble_eq_true rfl⟩) ?_
                              refine h_iald hx hb hK hW.c2 (10 * n + N 9 (10 * t + i)) (by omega) (by omega) (by decide) dX1_comes_171 ?_
                              refine W.eq (g2 := F0 m 172 ls [.int (iI (e4 (10 * n + N 9 (10 * t + i)))), .int (iI (10 * n + (N 9 (10 * t + i)))), .ref (ad 0 (2))]) rfl ?_
                              have b14 : -1 ≤ e4 (10 * n + N 9 (10 * t + i)) ∧ e4 (10 * n + N 9 (10 * t + i)) ≤ 1000000 := heb2 _
                              refine lv_aload hx hb dX1_comes_172 (lv_at hl 1 rfl) ?_
                              refine h_getN hx hb hts in_X4 hown hK (hW.k4 (t) (by omega)) rfl 2 (by decide) q533 rfl (v := .ref (ad 1 (10 + t))) rfl dX1_comes_174 ?_
                              refine lv_iload hx hb dX1_comes_177 (lv_at hl 0 rfl) ?_
                              obtain ⟨mc15, cp15, cq15, cr15, hLi15⟩ := (hW.lp (t) (by omega))
                              refine rc_V (W.runV (As := [.int (iI (i))]) (rest := [.int (iI (e4 (10 * n + N 9 (10 * t + i)))), .int (iI (10 * n + (N 9 (10 * t + i)))), .ref (ad 0 (2))]) ⟨hx, hb, hml, hown, hts⟩ (al_get l D cA (ad 1 (10 + t)) mc15 (ad 2 (10 + t)) (N 8 (t)) cp15 (fun j => ad 6 (10 * t + j)) (i) (by omega)) (cwV 1 hts (lw_V q565 q566 q567 q45 q568) rfl rfl rfl (by decide +kernel) ⟨Nat.le_of_ble_eq_true rfl, Nat.le_of_ble_eq_true rfl⟩) (preV hK hLi15.1 rfl hLi15) rfl rfl hl.1 rfl (lv_room (Nat.le_of_ble_eq_true rfl)) dX1_comes_179 ⟨Nat.le_of_ble_eq_true rfl, Nat.le_of_ble_eq_true rfl⟩) ?_
                              refine h_cast (ci := 4) (q := (RX5, TX5, 2)) hx hb hown (hts _ q699) hK rfl (isO.of (hW.k6 (t) (i) (by omega) (by omega))) dX1_comes_182 ?_
                              have b16 : N 10 (10 * t + i) ≤ 1439 := hN 10 _
                              refine h_getN hx hb hts in_X5 hown hK (hW.k6 (t) (i) (by omega) (by omega)) rfl 1 (by decide) q821 rfl (v := .int (iI (N 10 (10 * t + i)))) rfl dX1_comes_185 ?_
                              refine ri_mmax hx hb hml hl.1 hown (hts _ q661) (hts _ q194) (hts _ q55) (hts _ q195) (by unfold inR; omega) (by unfold inR; omega) (Nat.le_of_ble_eq_true rfl) (Nat.le_of_ble_eq_true rfl) (Nat.le_of_ble_eq_true rfl) (Nat.le_of_ble_eq_true rfl) dX1_comes_188 ?_
                              refine c_stE2 hx hb hK hW hF3 hN hS (10 * n + N 9 (10 * t + i)) (by omega) (by omega) dX1_comes_191 (fun H locs hW hS => ?_)
                              refine lv_iinc (v := iI ((i + 1 : Nat))) (lv' := [(7, .int (iI ((i + 1 : Nat)))), (6, .ref (ad 4 (t))), (5, .int (iI (t))), (4, .int (iI (n))), (0, .ref (ad 0 (0))), (1, .int (iI (to))), (2, .int (iI (best))), (3, .int (iI (few)))]) hx hb dX1_comes_192 hl (k := 0) rfl (iI_succ _) (by decide) rfl (fun ls hl => ?_)
                              refine lv_goto (tgt := 79) hx hb dX1_comes_195 (by decide) ?_
                              have hg : cI N Z n t e4 i = va_up (e4) (10 * n + N 9 (10 * t + i)) ((if (e4 (10 * n + N 9 (10 * t + i)) : Int) < N 10 (10 * t + i) then (N 10 (10 * t + i) : Int) else e4 (10 * n + N 9 (10 * t + i)))) := by unfold cI; rw [if_pos (by omega)]
                              have heb2 := cI_eb (Z := Z) hN (n := n) (t := t) (i := i) heb2
                              rw [hg] at heb2
                              rw [show N 8 t - i = (N 8 t - (i + 1)) + 1 by omega, cIs, hg] at hf4
                              exact ih79 (i + 1) (va_up (e4) (10 * n + N 9 (10 * t + i)) ((if (e4 (10 * n + N 9 (10 * t + i)) : Int) < N 10 (10 * t + i) then (N 10 (10 * t + i) : Int) else e4 (10 * n + N 9 (10 * t + i))))) (by omega) heb2 (fun q => absurd hcn q) hf4 (by omega) _ _ _ hW hS (lv_sub hl [0, 1, 2, 3, 4, 5, 6, 7] rfl)
                    exact lp79 _ (0) (e3) (Nat.zero_le _) heb2 (fun _ => ⟨rfl, rfl⟩) rfl (Nat.lt_succ_self _) _ _ _ hW hS (lv_sub hl [0, 1, 2, 3, 4, 5, 6, 7] rfl)
              exact lp50 _ (0) (e2) (Nat.zero_le _) heb2 rfl (Nat.lt_succ_self _) _ _ _ hW hS (lv_sub hl [0, 1, 2, 3, 4, 5] rfl)
        exact lp41 _ (1) (va_up (fun _ => (-1 : Int)) to (best : Int)) (Nat.le_refl _) (by omega) heb2 (by rw [Nat.add_sub_cancel]; rfl) (Nat.lt_succ_self _) _ _ _ hW hS (lv_sub hl [0, 1, 2, 3, 4] rfl)
      · skip
        refine lv_aload_n hx hb dX1_comes_13 rfl (lv_at hl 1 rfl) ?_
        refine h_get hx hb hts in_X1 hown hK hW.c0 rfl 6 (by decide) (hts _ q427) rfl (v := .ref (ad 0 (2))) rfl dX1_comes_14 ?_
        refine lv_iload hx hb dX1_comes_17 (lv_at hl 0 rfl) ?_
        refine lv_iconst (v := iI (-1)) hx hb dX1_comes_19 rfl ?_
        refine c_stE2 hx hb hK hW hF3 hN hS (k) (by omega) (by omega) dX1_comes_20 (fun H locs hW hS => ?_)
        refine lv_iinc (v := iI ((k + 1 : Nat))) (lv' := [(4, .int (iI ((k + 1 : Nat)))), (0, .ref (ad 0 (0))), (1, .int (iI (to))), (2, .int (iI (best))), (3, .int (iI (few)))]) hx hb dX1_comes_21 hl (k := 0) rfl (iI_succ _) (by decide) rfl (fun ls hl => ?_)
        refine lv_goto (tgt := 3) hx hb dX1_comes_24 (by decide) ?_
        rw [fl_up] at hW
        exact ih3 (k + 1) (by omega) (by omega) _ _ _ hW hS (lv_sub hl [0, 1, 2, 3, 4] rfl)
  rw [show E = va_up E 2 (fl (-1) (E 2) 0) from by rw [fl_0, va_up_eta]] at hW
  exact lp3 _ (0) (Nat.zero_le _) (Nat.lt_succ_self _) _ _ _ hW hS (lv_sub hl [0, 1, 2, 3, 4] rfl)
