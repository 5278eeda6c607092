set_option maxRecDepth 100000
set_option maxHeartbeats 4000000 in
set_option maxRecDepth 100000 in
theorem cc_X1_leads (l : Launch) (D : va_G) (cA : Nat → ClassId) (A : Nat → Prop) (sa : Nat → Nat) (ad : Nat → Nat → Nat) (F : Nat → Nat) (N : Nat → Nat → Nat) (Z : Nat → Int) (E : Nat → Nat → Int) (K : Nat) (hKb : K ≤ 1000000) (hF : FB F) (hN : NB N) (hZ : ZB K Z) (hwf : WF F N) (w na s0 m0 l0 to : Nat) (hw : TL F N w) (hna : na ≤ 2000) (hs0 : enW N w = s0) (hm0 : max (thW N w) na = m0) (hl0 : 3 - N 24 w = l0) (hto : toW N w = to) (hK3 : K + 3 ≤ 1000000) : Met l yX1_leads (ws_ yX1_leads cX1_leads 10 (some .boolean)) ({ frames := 7, cells := 6, slots := 1209, locals := 211 }) (PC D cA A sa ad F N Z E [.ref (ad 0 (0)), .ref (ad 8 (w)), .int (iI (na))]) (Qi (fun z H' => ∃ ad' E', agr ad ad' F N ∧ z = ((ldC (F 3) N Z w na).2.2 : Nat) ∧ NB (ldC (F 3) N Z w na).1 ∧ WF F (ldC (F 3) N Z w na).1 ∧ ZB (K + 3) (ldC (F 3) N Z w na).2.1 ∧ CW D cA A sa ad' F (ldC (F 3) N Z w na).1 (ldC (F 3) N Z w na).2.1 E' H') A) 6 1209 (A) := by
  refine Met.ofW (cc := cX1_leads) (maxL := 10) (ret := (some .boolean)) (by decide) rfl ?_
  intro p e s m args below meth c s₁ B hml hv
  obtain ⟨rfl, hK, hW⟩ := hv
  have hx := B.exec
  have hb := B.bytes
  have hr := B.returns
  have hts := atoms_spec (ws := ws_ yX1_leads cX1_leads 10 (some .boolean)) B.pre
  have hts : ∀ w ∈ lw_all, w.before _ s = true := fun w h => hts w (List.mem_cons_of_mem _ h)
  have hown : s.vm.findClass RX1 = some m.cls := findClass_of_methodNamed B.named
  have hlocks := B.notSynchronized
  have hl := lv_entry ([.ref (ad 0 (0)), .ref (ad 8 (w)), .int (iI (na))]) (n := 10) (Nat.le_of_ble_eq_true rfl)
  rw [lg_entry_eq]
  generalize (lg_sl ([.ref (ad 0 (0)), .ref (ad 8 (w)), .int (iI (na))]) ++ List.replicate (10 - (lg_sl ([.ref (ad 0 (0)), .ref (ad 8 (w)), .int (iI (na))])).length) Slot.unset).toArray = ls at hl ⊢
  have hl : lv_has ls 10 [(0, .ref (ad 0 (0))), (1, .ref (ad 8 (w))), (2, .int (iI (na)))] := hl
  obtain ⟨hSX, hW⟩ := hW
  have hS : va_S A s.heap s.heap [] := va_S.rf
  have hF2 : F 2 ≤ 10 := hF 2
  have hF3 : F 3 ≤ 16 := hF 3
  have hF4 : F 4 ≤ 60 := hF 4
  have hF5 : F 5 ≤ 40 := hF 5
  have hF1 : F 1 ≤ 1439 := hF 1
  have hm3 : N 24 w ≤ 3 := hN 24 w
  have hN0 := hN
  have hZ0 := hZ
  have hth := thW_le hN w
  have hen := enW_lt hwf hw
  have htoF := toW_lt hwf hw
  refine lv_iconst (v := iI (3)) hx hb dX1_leads_0 rfl ?_
  refine lv_aload_n hx hb dX1_leads_1 rfl (lv_at hl 1 rfl) ?_
  refine h_getN hx hb hts in_X7 hown hK (hW.k8 (w) ‹TL F N (w)›) rfl 6 (by decide) q602 rfl (v := .ref (ad 1 (100 + w))) rfl dX1_leads_2 ?_
  have b2 : N 24 (w) ≤ 3 := hN 24 _
  obtain ⟨mc1, cp1, cq1, cr1, hLi1⟩ := (hW.lg (w) ‹TL F N (w)›)
  refine rc_V (W.runV (As := []) (rest := [.int (iI (3))]) ⟨hx, hb, hml, hown, hts⟩ (al_size l D cA (ad 1 (100 + w)) mc1 (ad 2 (100 + w)) (N 24 (w))) (cwV 0 hts (lw_V q448 q449 q450 q45 q451) rfl rfl rfl (by decide +kernel) ⟨Nat.le_of_ble_eq_true rfl, Nat.le_of_ble_eq_true rfl⟩) (preV hK hLi1.1 rfl hLi1.1) rfl rfl hl.1 rfl (lv_room (Nat.le_of_ble_eq_true rfl)) dX1_leads_5 ⟨by first | exact Nat.le_of_ble_eq_true rfl | (show _ ≤ 6; omega), by first | exact Nat.le_of_ble_eq_true rfl | (show _ ≤ 1209; omega)⟩) ?_
  refine ri_isub hx hb dX1_leads_8 ?_
  refine ri_top (b := l0) (by omega) ?_
  refine lv_istore_n (lv' := [(3, .int (iI (l0))), (0, .ref (ad 0 (0))), (1, .ref (ad 8 (w))), (2, .int (iI (na)))]) hx hb dX1_leads_9 rfl hl (by decide) rfl (fun ls hl => ?_)
  refine lv_aload_n hx hb dX1_leads_10 rfl (lv_at hl 2 rfl) ?_
  refine rc_V (W.runV (As := []) (rest := []) ⟨hx, hb, hml, hown, hts⟩ (cc_X7_end l D cA A sa ad F N Z E _ (by omega) hF hN hZ hwf w ‹_›) (cwV 0 hts (lw_V q666 q667 q668 q69 q669) rfl rfl rfl (by decide +kernel) ⟨Nat.le_of_ble_eq_true rfl, Nat.le_of_ble_eq_true rfl⟩) (preVC hK hSX hS (hW.k8 (w) ‹TL F N (w)›) rfl hW) rfl rfl hl.1 rfl (lv_room (Nat.le_of_ble_eq_true rfl)) dX1_leads_11 ⟨by first | exact Nat.le_of_ble_eq_true rfl | (show _ ≤ 6; omega), by first | exact Nat.le_of_ble_eq_true rfl | (show _ ≤ 1209; omega)⟩) ?_
  have b3 : enW N w < F 2 := enW_lt hwf ‹_›
  refine h_getN hx hb hts in_X3 hown hK (hW.k3 (enW N w) (by omega)) rfl 0 (by decide) q459 rfl (v := .int (iI (enW N w))) rfl dX1_leads_14 ?_
  refine ri_top (b := s0) (by rw [hs0]) ?_
  refine lv_istore (lv' := [(4, .int (iI (s0))), (3, .int (iI (l0))), (0, .ref (ad 0 (0))), (1, .ref (ad 8 (w))), (2, .int (iI (na)))]) hx hb dX1_leads_17 hl (by decide) rfl (fun ls hl => ?_)
  refine lv_aload_n hx hb dX1_leads_19 rfl (lv_at hl 3 rfl) ?_
  refine rc_V (W.runV (As := []) (rest := []) ⟨hx, hb, hml, hown, hts⟩ (cc_X7_sorted l D cA A sa ad F N Z E _ (by omega) hF hN hZ hwf w ‹_›) (cwV 0 hts (lw_V q683 q684 q685 q69 q686) rfl rfl rfl (by decide +kernel) ⟨Nat.le_of_ble_eq_true rfl, Nat.le_of_ble_eq_true rfl⟩) (preVC hK hSX hS (hW.k8 (w) ‹TL F N (w)›) rfl hW) rfl rfl hl.1 rfl (lv_room (Nat.le_of_ble_eq_true rfl)) dX1_leads_20 ⟨by first | exact Nat.le_of_ble_eq_true rfl | (show _ ≤ 6; omega), by first | exact Nat.le_of_ble_eq_true rfl | (show _ ≤ 1209; omega)⟩) ?_
  have b4 : thW N w ≤ 1619 := thW_le hN _
  refine lv_iload_n hx hb dX1_leads_23 rfl (lv_at hl 4 rfl) ?_
  refine ri_mmax hx hb hml hl.1 hown (hts _ q661) (hts _ q194) (hts _ q55) (hts _ q195) (by unfold inR; omega) (by unfold inR; omega) (Nat.le_of_ble_eq_true rfl) (Nat.le_of_ble_eq_true rfl) (by first | exact Nat.le_of_ble_eq_true rfl | (show _ ≤ 6; omega) | (show _ ≤ 1209; omega)) (by first | exact Nat.le_of_ble_eq_true rfl | (show _ ≤ 6; omega) | (show _ ≤ 1209; omega)) dX1_leads_24 ?_
  refine ri_top (b := m0) (by rw [max_eq, hm0]) ?_
  refine lv_istore (lv' := [(5, .int (iI (m0))), (4, .int (iI (s0))), (3, .int (iI (l0))), (0, .ref (ad 0 (0))), (1, .ref (ad 8 (w))), (2, .int (iI (na)))]) hx hb dX1_leads_27 hl (by decide) rfl (fun ls hl => ?_)
  refine lv_aload_n hx hb dX1_leads_29 rfl (lv_at hl 3 rfl) ?_
  refine lv_iload hx hb dX1_leads_30 (lv_at hl 1 rfl) ?_
  refine lv_iload hx hb dX1_leads_32 (lv_at hl 0 rfl) ?_
  refine lv_iload_n hx hb dX1_leads_34 rfl (lv_at hl 2 rfl) ?_
  refine rc_N (W.runV (As := [.int (iI (s0)), .int (iI (m0)), .int (iI (l0))]) (rest := []) ⟨hx, hb, hml, hown, hts⟩ (cc_X1_goes l D cA A sa ad F N Z E _ (by omega) hF hN hZ hwf s0 m0 l0 (by omega) (by omega) (by omega)) (cwV 3 hts (lw_V q691 q693 qs6 q42 q694) rfl rfl rfl (by decide +kernel) ⟨Nat.le_of_ble_eq_true rfl, Nat.le_of_ble_eq_true rfl⟩) (preVC hK hSX hS hW.c0 rfl hW) rfl rfl hl.1 rfl (lv_room (Nat.le_of_ble_eq_true rfl)) dX1_leads_35 ⟨by first | exact Nat.le_of_ble_eq_true rfl | (show _ ≤ 6; omega), by first | exact Nat.le_of_ble_eq_true rfl | (show _ ≤ 1209; omega)⟩) hS (fun _ _ h => h) (fun _ h => h) (fun H locs hq hS hz hk => ?_)
  obtain ⟨heb1, hW⟩ := hq
  have hEA : ∀ x, x ≤ l0 → EA (F 3) N Z s0 m0 (gAll (F 3) N Z s0 m0 l0) x := fun x hx => gAll_EA hN (by omega) x hx
  have hnn1 := gAll_nn (F 3) N Z s0 m0 l0
  generalize gAll (F 3) N Z s0 m0 l0 = e1 at hW heb1 hEA hnn1
  refine lv_iconst (v := iI (0)) hx hb dX1_leads_38 rfl ?_
  refine lv_istore (lv' := [(6, .int (iI (0))), (5, .int (iI (m0))), (4, .int (iI (s0))), (3, .int (iI (l0))), (0, .ref (ad 0 (0))), (1, .ref (ad 8 (w))), (2, .int (iI (na)))]) hx hb dX1_leads_39 hl (by decide) rfl (fun ls hl => ?_)
  refine lv_iconst (v := iI (1)) hx hb dX1_leads_41 rfl ?_
  refine lv_istore (lv' := [(7, .int (iI (1))), (6, .int (iI (0))), (5, .int (iI (m0))), (4, .int (iI (s0))), (3, .int (iI (l0))), (0, .ref (ad 0 (0))), (1, .ref (ad 8 (w))), (2, .int (iI (na)))]) hx hb dX1_leads_42 hl (by decide) rfl (fun ls hl => ?_)
  have lp44 : ∀ (fuel : Nat) (n few : Nat) (hn1 : 1 ≤ n) (hn2 : n ≤ l0 + 1) (hfn : few < n) (hmin : ∀ x, x < n → e1 (10 * few + to) ≤ e1 (10 * x + to)) (hst : ∀ x, x < few → e1 (10 * few + to) < e1 (10 * x + to)), l0 + 1 - n < fuel → ∀ (H : Heap) (locs : List Loc) (ls : Array Slot), CW D cA A sa ad F N Z (va_up (E) 1 (e1)) H → va_S A s.heap H locs → lv_has ls 10 [(7, .int (iI (n))), (6, .int (iI (few))), (5, .int (iI (m0))), (4, .int (iI (s0))), (3, .int (iI (l0))), (0, .ref (ad 0 (0))), (1, .ref (ad 8 (w))), (2, .int (iI (na)))] → W p l e (headSpec (ws_ yX1_leads cX1_leads 10 (some .boolean)) ({ frames := 7, cells := 6, slots := 1209, locals := 211 })).room s m ([.ref (ad 0 (0)), .ref (ad 8 (w)), .int (iI (na))] : List Value).toArray below meth c H locs 0 0 (MQ below (Qi (fun z H' => ∃ ad' E', agr ad ad' F N ∧ z = ((ldC (F 3) N Z w na).2.2 : Nat) ∧ NB (ldC (F 3) N Z w na).1 ∧ WF F (ldC (F 3) N Z w na).1 ∧ ZB (K + 3) (ldC (F 3) N Z w na).2.1 ∧ CW D cA A sa ad' F (ldC (F 3) N Z w na).1 (ldC (F 3) N Z w na).2.1 E' H') A) ([.ref (ad 0 (0)), .ref (ad 8 (w)), .int (iI (na))] : List Value).toArray s 6 1209 (A)) (F0 m 44 ls []) := by
    intro fuel
    induction fuel with
    | zero => intro n few hn1 hn2 hfn hmin hst hm; exact absurd hm (Nat.not_lt_zero _)
    | succ fuel ih44 =>
      intro n few hn1 hn2 hfn hmin hst hm44 H locs ls hW hS hl
      refine lv_iload hx hb dX1_leads_44 (lv_at hl 0 rfl) ?_
      refine lv_iload_n hx hb dX1_leads_46 rfl (lv_at hl 4 rfl) ?_
      refine ri_icmp_gt (tgt := 97) hx hb (by unfold inR; omega) (by unfold inR; omega) dX1_leads_47 (by decide) (fun h5 => ?_) (fun h5 => ?_)
      · skip
        refine lv_aload_n hx hb dX1_leads_97 rfl (lv_at hl 5 rfl) ?_
        refine h_get hx hb hts in_X1 hown hK hW.c0 rfl 5 (by decide) (hts _ q426) rfl (v := .ref (ad 0 (1))) rfl dX1_leads_98 ?_
        refine lv_iload hx hb dX1_leads_101 (lv_at hl 1 rfl) ?_
        refine lv_aload_n hx hb dX1_leads_103 rfl (lv_at hl 6 rfl) ?_
        have b6 : toW N (w) < F 2 := toW_lt hwf ‹TL F N (w)›
        refine h_getN hx hb hts in_X7 hown hK (hW.k8 (w) ‹TL F N (w)›) rfl 1 (by decide) q595 rfl (v := .ref (ad 3 (toW N (w)))) rfl dX1_leads_104 ?_
        refine h_getN hx hb hts in_X3 hown hK (hW.k3 (toW N (w)) (by omega)) rfl 0 (by decide) q459 rfl (v := .int (iI (toW N (w)))) rfl dX1_leads_107 ?_
        refine ri_top (b := to) (by rw [hto]) ?_
        refine rc_V (W.runS (As := [.int (iI (few)), .int (iI (to))]) (rest := [.ref (ad 0 (1))]) ⟨hx, hb, hml, hown, hts⟩ (cc_X1_at l D cA few to ) (va_cwS 2 hts (lw_S q696 q697 q42 q698) rfl rfl rfl (by decide +kernel) ⟨Nat.le_of_ble_eq_true rfl, Nat.le_of_ble_eq_true rfl⟩) (preS hK (B := fun _ => True) trivial) rfl rfl hl.1 rfl (lv_room (Nat.le_of_ble_eq_true rfl)) dX1_leads_110 ⟨by first | exact Nat.le_of_ble_eq_true rfl | (show _ ≤ 6; omega), by first | exact Nat.le_of_ble_eq_true rfl | (show _ ≤ 1209; omega)⟩) ?_
        refine h_iald hx hb hK hW.c1 (10 * few + to) (by omega) (by omega) (by decide) dX1_leads_113 ?_
        refine W.eq (g2 := F0 m 114 ls [.int (iI (e1 (10 * few + to)))]) rfl ?_
        have b7 : -1 ≤ e1 (10 * few + to) ∧ e1 (10 * few + to) ≤ 1000000 := heb1 _
        refine lv_istore (lv' := [(7, .int (iI (e1 (10 * few + to)))), (6, .int (iI (few))), (5, .int (iI (m0))), (4, .int (iI (s0))), (3, .int (iI (l0))), (0, .ref (ad 0 (0))), (1, .ref (ad 8 (w))), (2, .int (iI (na)))]) hx hb dX1_leads_114 hl (by decide) rfl (fun ls hl => ?_)
        refine lv_iload hx hb dX1_leads_116 (lv_at hl 0 rfl) ?_
        refine lv_ldc (v := iI (1000000)) hx hb hown (show (Cond.constant RX1 123 (iI (1000000))).before _ s = true from hts _ q695) dX1_leads_118 ?_
        refine ri_icmp_ne (tgt := 125) hx hb (by unfold inR; omega) (by unfold inR; omega) dX1_leads_120 (by decide) (fun hbst => ?_) (fun hbst => ?_)
        · skip
          obtain ⟨hb1, hb2, hb3⟩ := best_yes hN (by omega) (by omega) hEA heb1 hnn1 (by omega) (fun x hx => hmin x (by omega)) hst hbst
          obtain ⟨best, hbb⟩ : ∃ b, (lkV (F 3) N Z to l0 s0 m0).1 = b := ⟨_, rfl⟩
          rw [hbb] at hb1 hb2
          rw [hb1] at hl
          refine lv_aload_n hx hb dX1_leads_125 rfl (lv_at hl 5 rfl) ?_
          refine lv_aload_n hx hb dX1_leads_126 rfl (lv_at hl 6 rfl) ?_
          refine h_getN hx hb hts in_X7 hown hK (hW.k8 (w) ‹TL F N (w)›) rfl 1 (by decide) q595 rfl (v := .ref (ad 3 (toW N (w)))) rfl dX1_leads_127 ?_
          refine h_getN hx hb hts in_X3 hown hK (hW.k3 (toW N (w)) (by omega)) rfl 0 (by decide) q459 rfl (v := .int (iI (toW N (w)))) rfl dX1_leads_130 ?_
          refine ri_top (b := to) (by rw [hto]) ?_
          refine lv_iload hx hb dX1_leads_133 (lv_at hl 0 rfl) ?_
          refine lv_iload hx hb dX1_leads_135 (lv_at hl 1 rfl) ?_
          refine rc_N (W.runV (As := [.int (iI (to)), .int (iI (best)), .int (iI (few))]) (rest := []) ⟨hx, hb, hml, hown, hts⟩ (cc_X1_comes l D cA A sa ad F N Z (va_up (E) 1 (e1)) _ (by omega) hF hN hZ hwf to best few (by omega) (by omega) (by omega)) (cwV 3 hts (lw_V q702 q704 qs7 q42 q705) rfl rfl rfl (by decide +kernel) ⟨Nat.le_of_ble_eq_true rfl, Nat.le_of_ble_eq_true rfl⟩) (preVC hK hSX hS hW.c0 rfl hW) rfl rfl hl.1 rfl (lv_room (Nat.le_of_ble_eq_true rfl)) dX1_leads_137 ⟨by first | exact Nat.le_of_ble_eq_true rfl | (show _ ≤ 6; omega), by first | exact Nat.le_of_ble_eq_true rfl | (show _ ≤ 1209; omega)⟩) hS (fun _ _ h => h) (fun _ h => h) (fun H locs hq hS hz hk => ?_)
          obtain ⟨heb2, hW⟩ := hq
          have hLA : ∀ x, x ≤ few → LA (F 3) N Z to best (cAll (F 3) N Z to best few) x := fun x hx => cAll_LA hN (by omega) x hx
          generalize cAll (F 3) N Z to best few = e2 at hW heb2 hLA
          refine lv_iload hx hb dX1_leads_140 (lv_at hl 1 rfl) ?_
          refine lv_istore (lv' := [(8, .int (iI (few))), (7, .int (iI (best))), (6, .int (iI (few))), (5, .int (iI (m0))), (4, .int (iI (s0))), (3, .int (iI (l0))), (0, .ref (ad 0 (0))), (1, .ref (ad 8 (w))), (2, .int (iI (na)))]) hx hb dX1_leads_142 hl (by decide) rfl (fun ls hl => ?_)
          have lp144 : ∀ (fuel : Nat) (n s1 m1 l1 : Nat) (adc Nc : Nat → Nat → Nat) (hn : n ≤ few) (hN : NB Nc) (hwf : WF F Nc) (heR : eqR N Nc) (htl : TL F Nc w) (hs19 : s1 ≤ 9) (hm12 : m1 ≤ 2000) (h24 : Nc 24 w + n = N 24 w + few) (hl1 : l1 + Nc 24 w = 3) (hv1 : (lkV (F 3) N Z to l1 s1 m1).1 = best) (hv2 : (lkV (F 3) N Z to l1 s1 m1).2.1 = n) (hWA : (wayL (F 3) N Z to l1 s1 m1).foldl (addL w) Nc = ((wayL (F 3) N Z to l0 s0 m0).foldl (addL w) N)) (hag : agr ad adc F N), n < fuel → ∀ (H : Heap) (locs : List Loc) (ls : Array Slot), CW D cA A sa adc F Nc Z (va_up (va_up (E) 1 (e1)) 2 (e2)) H → va_S A s.heap H locs → lv_has ls 10 [(8, .int (iI (n))), (7, .int (iI (best))), (6, .int (iI (few))), (5, .int (iI (m1))), (4, .int (iI (s1))), (3, .int (iI (l0))), (0, .ref (adc 0 (0))), (1, .ref (adc 8 (w))), (2, .int (iI (na)))] → W p l e (headSpec (ws_ yX1_leads cX1_leads 10 (some .boolean)) ({ frames := 7, cells := 6, slots := 1209, locals := 211 })).room s m ([.ref (ad 0 (0)), .ref (ad 8 (w)), .int (iI (na))] : List Value).toArray below meth c H locs (2 * (few - n)) (403 * (few - n)) (MQ below (Qi (fun z H' => ∃ ad' E', agr ad ad' F N ∧ z = ((ldC (F 3) N Z w na).2.2 : Nat) ∧ NB (ldC (F 3) N Z w na).1 ∧ WF F (ldC (F 3) N Z w na).1 ∧ ZB (K + 3) (ldC (F 3) N Z w na).2.1 ∧ CW D cA A sa ad' F (ldC (F 3) N Z w na).1 (ldC (F 3) N Z w na).2.1 E' H') A) ([.ref (ad 0 (0)), .ref (ad 8 (w)), .int (iI (na))] : List Value).toArray s 6 1209 (A)) (F0 m 144 ls []) := by
            intro fuel
            induction fuel with
            | zero => intro n s1 m1 l1 adc Nc hn hN hwf heR htl hs19 hm12 h24 hl1 hv1 hv2 hWA hag hm; exact absurd hm (Nat.not_lt_zero _)
            | succ fuel ih144 =>
              intro n s1 m1 l1 adc Nc hn hN hwf heR htl hs19 hm12 h24 hl1 hv1 hv2 hWA hag hm144 H locs ls hW hS hl
              refine lv_iload hx hb dX1_leads_144 (lv_at hl 0 rfl) ?_
              refine ri_if_le (tgt := 200) hx hb (by unfold inR; omega) dX1_leads_146 (by decide) (fun h8 => ?_) (fun h8 => ?_)
              · skip
                have hn0z : n = 0 := by omega
                rw [wayL_nil (lkV_0 (by omega))] at hWA
                have hWA : Nc = ((wayL (F 3) N Z to l0 s0 m0).foldl (addL w) N) := hWA
                have hNc := hN
                have hwfc := hwf
                have htlc := htl
                have hm3c : Nc 24 w ≤ 3 := hN 24 w
                refine lv_aload_n hx hb dX1_leads_200 rfl (lv_at hl 7 rfl) ?_
                refine h_getN hx hb hts in_X7 hown hK (hW.k8 (w) ‹TL F Nc (w)›) rfl 6 (by decide) q602 rfl (v := .ref (adc 1 (100 + w))) rfl dX1_leads_201 ?_
                have b10 : Nc 24 (w) ≤ 3 := hN 24 _
                obtain ⟨mc9, cp9, cq9, cr9, hLi9⟩ := (hW.lg (w) ‹TL F Nc (w)›)
                refine rc_V (W.runV (As := []) (rest := []) ⟨hx, hb, hml, hown, hts⟩ (al_size l D cA (adc 1 (100 + w)) mc9 (adc 2 (100 + w)) (Nc 24 (w))) (cwV 0 hts (lw_V q448 q449 q450 q45 q451) rfl rfl rfl (by decide +kernel) ⟨Nat.le_of_ble_eq_true rfl, Nat.le_of_ble_eq_true rfl⟩) (preV hK hLi9.1 rfl hLi9.1) rfl rfl hl.1 rfl (lv_room (Nat.le_of_ble_eq_true rfl)) dX1_leads_204 ⟨by first | exact Nat.le_of_ble_eq_true rfl | (show _ ≤ 6; omega), by first | exact Nat.le_of_ble_eq_true rfl | (show _ ≤ 1209; omega)⟩) ?_
                refine lv_iload hx hb dX1_leads_207 (lv_at hl 2 rfl) ?_
                refine ri_isub hx hb dX1_leads_209 ?_
                refine ri_top (b := (N 24 w : Nat)) (by omega) ?_
                refine lv_istore (lv' := [(8, .int (iI ((N 24 w : Nat)))), (7, .int (iI (best))), (6, .int (iI (few))), (5, .int (iI (m1))), (4, .int (iI (s1))), (3, .int (iI (l0))), (0, .ref (adc 0 (0))), (1, .ref (adc 8 (w))), (2, .int (iI (na)))]) hx hb dX1_leads_210 hl (by decide) rfl (fun ls hl => ?_)
                have lp212 : ∀ (fuel : Nat) (j : Nat) (hj : j ≤ few) (hN : NB (usN Nc w (N 24 w) j)) (hwf : WF F (usN Nc w (N 24 w) j)) (htl : TL F (usN Nc w (N 24 w) j) w) (hZ : ZB (K + j) (ldZ Nc w 1 (N 24 w) j Z)), few - j < fuel → ∀ (H : Heap) (locs : List Loc) (ls : Array Slot), CW D cA A sa adc F (usN Nc w (N 24 w) j) (ldZ Nc w 1 (N 24 w) j Z) (va_up (va_up (E) 1 (e1)) 2 (e2)) H → va_S A s.heap H locs → lv_has ls 10 [(8, .int (iI ((N 24 w + j : Nat)))), (7, .int (iI (best))), (6, .int (iI (few))), (5, .int (iI (m1))), (4, .int (iI (s1))), (3, .int (iI (l0))), (0, .ref (adc 0 (0))), (1, .ref (adc 8 (w))), (2, .int (iI (na)))] → W p l e (headSpec (ws_ yX1_leads cX1_leads 10 (some .boolean)) ({ frames := 7, cells := 6, slots := 1209, locals := 211 })).room s m ([.ref (ad 0 (0)), .ref (ad 8 (w)), .int (iI (na))] : List Value).toArray below meth c H locs (2 * (few - n)) (403 * (few - n)) (MQ below (Qi (fun z H' => ∃ ad' E', agr ad ad' F N ∧ z = ((ldC (F 3) N Z w na).2.2 : Nat) ∧ NB (ldC (F 3) N Z w na).1 ∧ WF F (ldC (F 3) N Z w na).1 ∧ ZB (K + 3) (ldC (F 3) N Z w na).2.1 ∧ CW D cA A sa ad' F (ldC (F 3) N Z w na).1 (ldC (F 3) N Z w na).2.1 E' H') A) ([.ref (ad 0 (0)), .ref (ad 8 (w)), .int (iI (na))] : List Value).toArray s 6 1209 (A)) (F0 m 212 ls []) := by
                  intro fuel
                  induction fuel with
                  | zero => intro j hj hN hwf htl hZ hm; exact absurd hm (Nat.not_lt_zero _)
                  | succ fuel ih212 =>
                    intro j hj hN hwf htl hZ hm212 H locs ls hW hS hl
                    have hu24 : (usN Nc w (N 24 w) j) 24 w = N 24 w + few := by rw [usN_row (by decide)]; omega
                    refine lv_iload hx hb dX1_leads_212 (lv_at hl 0 rfl) ?_
                    refine lv_aload_n hx hb dX1_leads_214 rfl (lv_at hl 7 rfl) ?_
                    refine h_getN hx hb hts in_X7 hown hK (hW.k8 (w) ‹TL F (usN Nc w (N 24 w) j) (w)›) rfl 6 (by decide) q602 rfl (v := .ref (adc 1 (100 + w))) rfl dX1_leads_215 ?_
                    have b12 : (usN Nc w (N 24 w) j) 24 (w) ≤ 3 := hN 24 _
                    obtain ⟨mc11, cp11, cq11, cr11, hLi11⟩ := (hW.lg (w) ‹TL F (usN Nc w (N 24 w) j) (w)›)
                    refine rc_V (W.runV (As := []) (rest := [.int (iI ((N 24 w + j : Nat)))]) ⟨hx, hb, hml, hown, hts⟩ (al_size l D cA (adc 1 (100 + w)) mc11 (adc 2 (100 + w)) ((usN Nc w (N 24 w) j) 24 (w))) (cwV 0 hts (lw_V q448 q449 q450 q45 q451) rfl rfl rfl (by decide +kernel) ⟨Nat.le_of_ble_eq_true rfl, Nat.le_of_ble_eq_true rfl⟩) (preV hK hLi11.1 rfl hLi11.1) rfl rfl hl.1 rfl (lv_room (Nat.le_of_ble_eq_true rfl)) dX1_leads_218 ⟨by first | exact Nat.le_of_ble_eq_true rfl | (show _ ≤ 6; omega), by first | exact Nat.le_of_ble_eq_true rfl | (show _ ≤ 1209; omega)⟩) ?_
                    refine ri_top (b := (N 24 w + few : Nat)) (by rw [usN_row (by decide)]; omega) ?_
                    refine ri_icmp_ge (tgt := 245) hx hb (by unfold inR; omega) (by unfold inR; omega) dX1_leads_221 (by decide) (fun h13 => ?_) (fun h13 => ?_)
                    · skip
                      refine lv_aload_n hx hb dX1_leads_245 rfl (lv_at hl 7 rfl) ?_
                      refine va_gets (v := .ref (sa 1)) hx hb hSX.2.2.2.2.2.1 hS hown (hts _ q658) (fun _ h => h) dX1_leads_246 ?_
                      refine h_putN hx hb hts in_X7 tyX7 tyX7_ok nmX7 hown hK (hW.k8 (w) ‹TL F (usN Nc w (N 24 w) j) (w)›) hS (hW.hA 8 (w) ‹TL F (usN Nc w (N 24 w) j) (w)›) rfl 7 (by decide) q604 rfl rfl (v := .ref (sa 1)) rfl rfl rfl (Nat.le_of_ble_eq_true rfl) dX1_leads_249 (fun H locs hP oq zq hS => ?_)
                      have hP : va_at D CL (adc 8 (w), eW adc sa (up2 (usN Nc w (N 24 w) j) 25 (w) (1)) (w)) H := by rw [eW, up2_eq]; exact hP
                      have hW := hW.setW25 (v := 1) hF3 hN ‹_› hP oq zq
                      have hN : NB (up2 (usN Nc w (N 24 w) j) 25 (w) (1)) := hN.up (by show _ ≤ 10; omega)
                      have hwf : WF F (up2 (usN Nc w (N 24 w) j) 25 (w) (1)) := hwf.st (by omega)
                      have htl249 : TL F (up2 (usN Nc w (N 24 w) j) 25 (w) (1)) (w) := ‹TL F (usN Nc w (N 24 w) j) (w)›
                      refine lv_iconst (v := iI (1)) hx hb dX1_leads_252 rfl ?_
                      have hj9 : few = j := by omega
                      refine W.widen (k := 6) (n := 1209) (by omega) (by omega) ?_
                      exact W.zret hx hb hr (by rfl) (fun tt htt hWm => ⟨⟨_, rfl, by rw [htt]; exact ⟨adc, _, hag, by rw [show ldC (F 3) N Z w na = (up2 (usN Nc w (N 24 w) j) 25 w 1, ldZ Nc w 1 (N 24 w) j Z, 1) from by unfold ldC; rw [hs0, hm0, hl0, hto, if_pos (by omega), hb3, hj9, ← hWA]]; exact ⟨rfl, hN, hwf, hZ.mono (by omega), hW⟩⟩⟩, hS.F htt⟩) hS.2.2 dX1_leads_253
                    · skip
                      refine lv_aload_n hx hb dX1_leads_224 rfl (lv_at hl 7 rfl) ?_
                      refine h_getN hx hb hts in_X7 hown hK (hW.k8 (w) ‹TL F (usN Nc w (N 24 w) j) (w)›) rfl 6 (by decide) q602 rfl (v := .ref (adc 1 (100 + w))) rfl dX1_leads_225 ?_
                      refine lv_iload hx hb dX1_leads_228 (lv_at hl 0 rfl) ?_
                      obtain ⟨mc14, cp14, cq14, cr14, hLi14⟩ := (hW.lg (w) ‹TL F (usN Nc w (N 24 w) j) (w)›)
                      refine rc_V (W.runV (As := [.int (iI ((N 24 w + j : Nat)))]) (rest := []) ⟨hx, hb, hml, hown, hts⟩ (al_get l D cA (adc 1 (100 + w)) mc14 (adc 2 (100 + w)) ((usN Nc w (N 24 w) j) 24 (w)) cp14 (fun j => adc 9 (3 * w + j)) ((N 24 w + j : Nat)) (by omega)) (cwV 1 hts (lw_V q565 q566 q567 q45 q568) rfl rfl rfl (by decide +kernel) ⟨Nat.le_of_ble_eq_true rfl, Nat.le_of_ble_eq_true rfl⟩) (preV hK hLi14.1 rfl hLi14) rfl rfl hl.1 rfl (lv_room (Nat.le_of_ble_eq_true rfl)) dX1_leads_230 ⟨by first | exact Nat.le_of_ble_eq_true rfl | (show _ ≤ 6; omega), by first | exact Nat.le_of_ble_eq_true rfl | (show _ ≤ 1209; omega)⟩) ?_
                      have b15 : (usN Nc w (N 24 w) j) 27 (3 * w + ((N 24 w + j : Nat))) < F 3 ∧ (usN Nc w (N 24 w) j) 28 (3 * w + ((N 24 w + j : Nat))) < (usN Nc w (N 24 w) j) 29 (3 * w + ((N 24 w + j : Nat))) ∧ (usN Nc w (N 24 w) j) 29 (3 * w + ((N 24 w + j : Nat))) < (usN Nc w (N 24 w) j) 8 ((usN Nc w (N 24 w) j) 27 (3 * w + ((N 24 w + j : Nat)))) := hwf.2.2.1 _ _ ‹TL F (usN Nc w (N 24 w) j) (w)› (by omega)
                      have b16 : (usN Nc w (N 24 w) j) 8 ((usN Nc w (N 24 w) j) 27 (3 * w + ((N 24 w + j : Nat)))) ≤ 10 := hN 8 _
                      refine h_cast (ci := 7) (q := (RX8, TX8, 3)) hx hb hown (hts _ q714) hK rfl (isO.of (hW.k9 (w) ((N 24 w + j : Nat)) ‹TL F (usN Nc w (N 24 w) j) (w)› (by omega))) dX1_leads_233 ?_
                      refine rc_N (W.runV (As := []) (rest := []) ⟨hx, hb, hml, hown, hts⟩ (cc_X8_takes l D cA A sa adc F (usN Nc w (N 24 w) j) (ldZ Nc w 1 (N 24 w) j Z) (va_up (va_up (E) 1 (e1)) 2 (e2)) _ (by omega) hF hN hZ hwf w ((N 24 w + j : Nat)) ‹_› (by omega)) (cwV 0 hts (lw_V q735 q736 q737 q72 q738) rfl rfl rfl (by decide +kernel) ⟨Nat.le_of_ble_eq_true rfl, Nat.le_of_ble_eq_true rfl⟩) (preVC hK hSX hS (hW.k9 (w) ((N 24 w + j : Nat)) ‹TL F (usN Nc w (N 24 w) j) (w)› (by omega)) rfl hW) rfl rfl hl.1 rfl (lv_room (Nat.le_of_ble_eq_true rfl)) dX1_leads_236 ⟨by first | exact Nat.le_of_ble_eq_true rfl | (show _ ≤ 6; omega), by first | exact Nat.le_of_ble_eq_true rfl | (show _ ≤ 1209; omega)⟩) hS (fun _ _ h => h) (fun _ h => h) (fun H locs hW hS hz hk => ?_)
                      rw [usN_row (k := 27) (by decide), usN_row (k := 28) (by decide), usN_row (k := 29) (by decide)] at hW
                      have hW : CW D cA A sa adc F (usN Nc w (N 24 w) (j + 1)) (ldZ Nc w 1 (N 24 w) (j + 1) Z) (va_up (va_up (E) 1 (e1)) 2 (e2)) H := hW
                      refine lv_iinc (v := iI ((N 24 w + (j + 1) : Nat))) (lv' := [(8, .int (iI ((N 24 w + (j + 1) : Nat)))), (7, .int (iI (best))), (6, .int (iI (few))), (5, .int (iI (m1))), (4, .int (iI (s1))), (3, .int (iI (l0))), (0, .ref (adc 0 (0))), (1, .ref (adc 8 (w))), (2, .int (iI (na)))]) hx hb dX1_leads_239 hl (k := 0) rfl (iI_succ _) (by decide) rfl (fun ls hl => ?_)
                      refine lv_goto (tgt := 212) hx hb dX1_leads_242 (by decide) ?_
                      exact ih212 (j + 1) (by omega) (usN_NB hNc _) (usN_WF hwfc _) (usN_TL htlc _) (ldZ_B (by decide) (by decide) (j + 1) Z hZ0) (by omega) _ _ _ hW hS (lv_sub hl [0, 1, 2, 3, 4, 5, 6, 7, 8] rfl)
                exact lp212 _ (0) (Nat.zero_le _) hN hwf htl hZ (Nat.lt_succ_self _) _ _ _ hW hS (lv_sub hl [0, 1, 2, 3, 4, 5, 6, 7, 8] rfl)
              · skip
                have hm3c : Nc 24 w ≤ 3 := hN 24 w
                obtain ⟨q, hq1, hq2, hq3, hq4, hq5, hq6, hq7⟩ := first_is hN0 hv1 hb2 (show (lkV (F 3) N Z to l1 s1 m1).2.1 = (n - 1) + 1 by omega) (hLA (n - 1) (by omega))
                rw [show n - 1 + 1 = n by omega] at hq1
                have he := heR.T
                have hfq : (legsA Nc Z s1 m1 (F 3) 0).find? (fP Nc e2 n) = some q := by rw [he.lA, fP_eq he]; exact hq1
                obtain ⟨-, hqa, hqb, hqc, -⟩ := (mem_legsA _ _).mp (List.mem_of_find?_eq_some hq1)
                have hq8 : N 8 q.1 ≤ 10 := hN0 8 _
                have hN8 : Nc 8 q.1 = N 8 q.1 := by rw [heR 8 (by decide) (by decide)]
                have hlt0 := hW.lt hF3 hN
                have hgr0 := hW.2.2.2
                refine lv_aload_n hx hb dX1_leads_149 rfl (lv_at hl 6 rfl) ?_
                refine lv_iload hx hb dX1_leads_150 (lv_at hl 4 rfl) ?_
                refine lv_iload hx hb dX1_leads_152 (lv_at hl 3 rfl) ?_
                refine lv_iload hx hb dX1_leads_154 (lv_at hl 0 rfl) ?_
                refine rc_O (W.runV (As := [.int (iI (s1)), .int (iI (m1)), .int (iI (n))]) (rest := []) ⟨hx, hb, hml, hown, hts⟩ (cc_X1_first l D cA A sa adc F Nc Z (va_up (va_up (E) 1 (e1)) 2 (e2)) _ (by omega) hF hN hZ hwf s1 m1 n H.size q (by omega) (by omega) (by omega) (by omega) heb2 hfq) (cwV 3 hts (lw_V q710 q712 qs9 q42 q713) rfl rfl rfl (by decide +kernel) ⟨Nat.le_of_ble_eq_true rfl, Nat.le_of_ble_eq_true rfl⟩) (preVS hK hSX hS hW.c0 rfl hW rfl) rfl rfl hl.1 rfl (lv_room (Nat.le_of_ble_eq_true rfl)) dX1_leads_156 ⟨by show 2 * (few - n) + 1 ≤ 6; omega, by show 403 * (few - n) + 3 ≤ 1209; omega⟩) hS (fun _ _ h => h) (fun _ h => h) (fun z H locs hq hS hz hk => ?_)
                obtain ⟨hzn, hleg, hW⟩ := hq
                refine lv_astore (lv' := [(9, .ref z), (8, .int (iI (n))), (7, .int (iI (best))), (6, .int (iI (few))), (5, .int (iI (m1))), (4, .int (iI (s1))), (3, .int (iI (l0))), (0, .ref (adc 0 (0))), (1, .ref (adc 8 (w))), (2, .int (iI (na)))]) hx hb dX1_leads_159 hl (by decide) rfl (fun ls hl => ?_)
                refine lv_aload_n hx hb dX1_leads_161 rfl (lv_at hl 8 rfl) ?_
                refine h_getN hx hb hts in_X7 hown hK (hW.k8 (w) ‹TL F Nc (w)›) rfl 6 (by decide) q602 rfl (v := .ref (adc 1 (100 + w))) rfl dX1_leads_162 ?_
                refine lv_aload hx hb dX1_leads_165 (lv_at hl 0 rfl) ?_
                have b18 : Nc 24 (w) ≤ 3 := hN 24 _
                obtain ⟨mc17, cp17, cq17, cr17, hLi17⟩ := (hW.lg (w) ‹TL F Nc (w)›)
                refine rc_I (W.runV (As := [.ref z]) (rest := []) ⟨hx, hb, hml, hown, hts⟩ (al_add l D cA (adc 1 (100 + w)) mc17 (adc 2 (100 + w)) H.size (Nc 24 (w)) cp17 z 7 (fun j => adc 9 (3 * w + j)) cq17 (by omega) (by decide) (by have := hlt0 1 _ (lv_lg htl); omega)) (cwV 1 hts (lw_V q468 q469 q470 q45 q471) rfl rfl rfl (by decide +kernel) ⟨Nat.le_of_ble_eq_true rfl, Nat.le_of_ble_eq_true rfl⟩) (preV hK hLi17.1 rfl ⟨hLi17, rfl, (fun j hj => ⟨7, by decide, isO.of (hW.k9 w j htl hj)⟩), (isO.of hleg), (by have := hlt0 2 _ (lv_eg htl); omega), (fun j hj => hW.ne (lv_9 htl hj (hN 24 w)) (lv_lg htl) (Or.inl (by decide)))⟩) rfl rfl hl.1 rfl (lv_room (Nat.le_of_ble_eq_true rfl)) dX1_leads_167 ⟨by show 2 * (few - n) + 1 + 1 ≤ 6; omega, by show 403 * (few - n) + 3 + 400 ≤ 1209; omega⟩) hS (fun q _ h => by rcases h with h | h | h; rw [h]; exact hW.hA 1 _ (lv_lg ‹_›); rw [h]; exact hW.hA 2 _ (lv_eg ‹_›); exact hW.2.2.2 q h) (fun q  h => by rcases h with h | h | h; rw [h]; exact hW.hA 1 _ (lv_lg ‹_›); rw [h]; exact hW.hA 2 _ (lv_eg ‹_›); exact hW.2.2.2 q h) (fun zr H locs hq hS hz hk => ?_)
                obtain ⟨rfl, ez, hLz, hor⟩ := hq
                have hcap := nxC_le (cap := cp17) (sz := Nc 24 (w)) cq17 cr17 (by omega)
                have hzl := hleg.lt
                have hl1 := hlt0 1 _ (lv_lg htl)
                have hl2 := hlt0 2 _ (lv_eg htl)
                have hleg := hleg.kept (hk _ hzl (by omega))
                have hAe : A ez := by rcases hor with h | h; rw [h]; exact hW.hA 2 _ (lv_eg htl); exact hgr0 _ (by omega)
                have hW := hW.addG (q := q) hF3 hN htl (by omega) ⟨_, _, hcap.1, hcap.2, hLz⟩ hleg hlt0 hzn (by rcases hor with h | h; exact Or.inl h; exact Or.inr ⟨by omega, by omega⟩) (hgr0 _ hzn) hAe (fun q h1 h2 => hk q (by omega) (by omega)) hz
                have hag : agr ad (adG adc w (Nc 24 w) z ez) F N := fun k i hl h2 h9 => (adG_ne (by omega) (by omega)).trans (hag k i hl h2 h9)
                have hwf := hwf.addL hN (w := w) (q := q) (by omega) (by omega) (by omega) (by rw [hN8]; omega)
                have hN := hN.addL (w := w) (q := q) (by omega) (by omega) (by omega) (by omega)
                have heR := heR.addL w q
                have htl := heR.TL hw
                have hq8b : q.2.2 < (addL w Nc q) 8 q.1 := by rw [heR 8 (by decide) (by decide)]; omega
                refine lv_pop hx hb dX1_leads_170 rfl ?_
                refine lv_aload hx hb dX1_leads_171 (lv_at hl 0 rfl) ?_
                refine rc_V (W.runV (As := []) (rest := []) ⟨hx, hb, hml, hown, hts⟩ (cc_X8_to_z l D cA A sa (adG adc w (Nc 24 w) z ez) F (addL w Nc q) Z (va_up (va_up (E) 1 (e1)) 2 (e2)) _ (by omega) hF hN hZ hwf z q.1 q.2.1 q.2.2 (by omega) (by omega) (by omega)) (cwV 0 hts (lw_V q734 q678 q679 q72 q680) rfl rfl rfl (by decide +kernel) ⟨Nat.le_of_ble_eq_true rfl, Nat.le_of_ble_eq_true rfl⟩) (preVZ hK hSX hS hleg rfl hW) rfl rfl hl.1 rfl (lv_room (Nat.le_of_ble_eq_true rfl)) dX1_leads_173 ⟨by first | exact Nat.le_of_ble_eq_true rfl | (show _ ≤ 6; omega), by first | exact Nat.le_of_ble_eq_true rfl | (show _ ≤ 1209; omega)⟩) ?_
                have b19 : (addL w Nc q) 9 (10 * q.1 + q.2.2) < F 2 := hwf.1 _ _ (by omega) (by omega)
                refine h_getN hx hb hts in_X5 hown hK (hW.k6 (q.1) (q.2.2) (by omega) (by omega)) rfl 0 (by decide) q819 rfl (v := .ref (adG adc w (Nc 24 w) z ez 3 ((addL w Nc q) 9 (10 * q.1 + q.2.2)))) rfl dX1_leads_176 ?_
                refine h_getN hx hb hts in_X3 hown hK (hW.k3 ((addL w Nc q) 9 (10 * q.1 + q.2.2)) (by omega)) rfl 0 (by decide) q459 rfl (v := .int (iI ((addL w Nc q) 9 (10 * q.1 + q.2.2)))) rfl dX1_leads_179 ?_
                refine ri_top (b := q9 N q) (by rw [heR 9 (by decide) (by decide)]) ?_
                refine lv_istore (lv' := [(4, .int (iI (q9 N q))), (9, .ref z), (8, .int (iI (n))), (7, .int (iI (best))), (6, .int (iI (few))), (5, .int (iI (m1))), (3, .int (iI (l0))), (0, .ref (adc 0 (0))), (1, .ref (adc 8 (w))), (2, .int (iI (na)))]) hx hb dX1_leads_182 hl (by decide) rfl (fun ls hl => ?_)
                refine lv_aload hx hb dX1_leads_184 (lv_at hl 1 rfl) ?_
                refine rc_V (W.runV (As := []) (rest := []) ⟨hx, hb, hml, hown, hts⟩ (cc_X8_to_z l D cA A sa (adG adc w (Nc 24 w) z ez) F (addL w Nc q) Z (va_up (va_up (E) 1 (e1)) 2 (e2)) _ (by omega) hF hN hZ hwf z q.1 q.2.1 q.2.2 (by omega) (by omega) (by omega)) (cwV 0 hts (lw_V q734 q678 q679 q72 q680) rfl rfl rfl (by decide +kernel) ⟨Nat.le_of_ble_eq_true rfl, Nat.le_of_ble_eq_true rfl⟩) (preVZ hK hSX hS hleg rfl hW) rfl rfl hl.1 rfl (lv_room (Nat.le_of_ble_eq_true rfl)) dX1_leads_186 ⟨by first | exact Nat.le_of_ble_eq_true rfl | (show _ ≤ 6; omega), by first | exact Nat.le_of_ble_eq_true rfl | (show _ ≤ 1209; omega)⟩) ?_
                refine rc_V (W.runV (As := []) (rest := []) ⟨hx, hb, hml, hown, hts⟩ (cc_X5_sorted l D cA A sa (adG adc w (Nc 24 w) z ez) F (addL w Nc q) Z (va_up (va_up (E) 1 (e1)) 2 (e2)) _ (by omega) hF hN hZ hwf q.1 q.2.2 (by omega) (by omega)) (cwV 0 hts (lw_V q700 q688 q689 q67 q690) rfl rfl rfl (by decide +kernel) ⟨Nat.le_of_ble_eq_true rfl, Nat.le_of_ble_eq_true rfl⟩) (preVC hK hSX hS (hW.k6 (q.1) (q.2.2) (by omega) (by omega)) rfl hW) rfl rfl hl.1 rfl (lv_room (Nat.le_of_ble_eq_true rfl)) dX1_leads_189 ⟨by first | exact Nat.le_of_ble_eq_true rfl | (show _ ≤ 6; omega), by first | exact Nat.le_of_ble_eq_true rfl | (show _ ≤ 1209; omega)⟩) ?_
                have b20 : behN (addL w Nc q) (10 * q.1 + q.2.2) ≤ 1499 := behN_le hN _
                refine ri_top (b := qb N q) (by rw [heR.T.beh]) ?_
                refine lv_istore (lv' := [(5, .int (iI (qb N q))), (4, .int (iI (q9 N q))), (9, .ref z), (8, .int (iI (n))), (7, .int (iI (best))), (6, .int (iI (few))), (3, .int (iI (l0))), (0, .ref (adc 0 (0))), (1, .ref (adc 8 (w))), (2, .int (iI (na)))]) hx hb dX1_leads_192 hl (by decide) rfl (fun ls hl => ?_)
                refine lv_iinc (v := iI ((n - 1 : Nat))) (lv' := [(8, .int (iI ((n - 1 : Nat)))), (5, .int (iI (qb N q))), (4, .int (iI (q9 N q))), (9, .ref z), (7, .int (iI (best))), (6, .int (iI (few))), (3, .int (iI (l0))), (0, .ref (adc 0 (0))), (1, .ref (adc 8 (w))), (2, .int (iI (na)))]) hx hb dX1_leads_194 hl (k := 3) rfl (by rw [show ((n - 1 : Nat) : Int) = (n : Int) + (-1) by omega]; exact iI_add _ _) (by decide) rfl (fun ls hl => ?_)
                refine lv_goto (tgt := 144) hx hb dX1_leads_197 (by decide) ?_
                have hwc := (wayL_cons (T := F 3) (N := N) (Z := Z) (to := to) (l := l1) (s := s1) (m := m1) (by omega)).2
                rw [hwc, hq2, hq3, hq4, Nat.add_sub_cancel, List.foldl_cons] at hWA
                have hqb9 := behN_le hN0 (10 * q.1 + q.2.2)
                refine W.widen (k := 2 * (few - (n - 1))) (n := 403 * (few - (n - 1))) (by omega) (by omega) ?_
                exact ih144 (n - 1) (q9 N q) (qb N q) (l1 - 1) (adG adc w (Nc 24 w) z ez) (addL w Nc q) (by omega) hN hwf heR htl (hN0 9 _) (by show behN N _ ≤ 2000; omega) (by rw [addL_24x, if_pos rfl]; omega) (by rw [addL_24x, if_pos rfl]; omega) hq6 hq7 hWA hag (by omega) _ _ _ hW hS (lv_sub hl [0, 4, 5, 1, 2, 6, 7, 8, 9] rfl)
          refine W.widen (k := 2 * (few - few)) (n := 403 * (few - few)) (Nat.zero_le _) (Nat.zero_le _) ?_
          exact lp144 _ (few) (s0) (m0) (l0) (ad) (N) (Nat.le_refl _) hN hwf (eqR.rf N) hw (by omega) (by omega) rfl (by omega) hbb hb3 rfl (agr.rf _ _ _) (Nat.lt_succ_self _) _ _ _ hW hS (lv_sub hl [0, 1, 2, 3, 4, 5, 6, 7, 8] rfl)
        · skip
          have hno := best_no hN (by omega) (by omega) hEA (fun x hx => hmin x (by omega)) hbst
          refine lv_iconst (v := iI (0)) hx hb dX1_leads_123 rfl ?_
          refine W.widen (k := 6) (n := 1209) (Nat.zero_le _) (Nat.zero_le _) ?_
          exact W.zret hx hb hr (by rfl) (fun tt htt hWm => ⟨⟨_, rfl, by rw [htt]; exact ⟨ad, _, agr.rf _ _ _, by rw [show ldC (F 3) N Z w na = (N, Z, 0) from by unfold ldC; rw [hs0, hm0, hl0, hto]; exact if_neg hno]; exact ⟨rfl, hN, hwf, hZ.mono (by omega), hW⟩⟩⟩, hS.F htt⟩) hS.2.2 dX1_leads_124
      · skip
        refine lv_aload_n hx hb dX1_leads_50 rfl (lv_at hl 5 rfl) ?_
        refine h_get hx hb hts in_X1 hown hK hW.c0 rfl 5 (by decide) (hts _ q426) rfl (v := .ref (ad 0 (1))) rfl dX1_leads_51 ?_
        refine lv_iload hx hb dX1_leads_54 (lv_at hl 0 rfl) ?_
        refine lv_aload_n hx hb dX1_leads_56 rfl (lv_at hl 6 rfl) ?_
        have b21 : toW N (w) < F 2 := toW_lt hwf ‹TL F N (w)›
        refine h_getN hx hb hts in_X7 hown hK (hW.k8 (w) ‹TL F N (w)›) rfl 1 (by decide) q595 rfl (v := .ref (ad 3 (toW N (w)))) rfl dX1_leads_57 ?_
        refine h_getN hx hb hts in_X3 hown hK (hW.k3 (toW N (w)) (by omega)) rfl 0 (by decide) q459 rfl (v := .int (iI (toW N (w)))) rfl dX1_leads_60 ?_
        refine ri_top (b := to) (by rw [hto]) ?_
        refine rc_V (W.runS (As := [.int (iI (n)), .int (iI (to))]) (rest := [.ref (ad 0 (1))]) ⟨hx, hb, hml, hown, hts⟩ (cc_X1_at l D cA n to ) (va_cwS 2 hts (lw_S q696 q697 q42 q698) rfl rfl rfl (by decide +kernel) ⟨Nat.le_of_ble_eq_true rfl, Nat.le_of_ble_eq_true rfl⟩) (preS hK (B := fun _ => True) trivial) rfl rfl hl.1 rfl (lv_room (Nat.le_of_ble_eq_true rfl)) dX1_leads_63 ⟨by first | exact Nat.le_of_ble_eq_true rfl | (show _ ≤ 6; omega), by first | exact Nat.le_of_ble_eq_true rfl | (show _ ≤ 1209; omega)⟩) ?_
        refine h_iald hx hb hK hW.c1 (10 * n + to) (by omega) (by omega) (by decide) dX1_leads_66 ?_
        refine W.eq (g2 := F0 m 67 ls [.int (iI (e1 (10 * n + to)))]) rfl ?_
        have b22 : -1 ≤ e1 (10 * n + to) ∧ e1 (10 * n + to) ≤ 1000000 := heb1 _
        refine lv_aload_n hx hb dX1_leads_67 rfl (lv_at hl 5 rfl) ?_
        refine h_get hx hb hts in_X1 hown hK hW.c0 rfl 5 (by decide) (hts _ q426) rfl (v := .ref (ad 0 (1))) rfl dX1_leads_68 ?_
        refine lv_iload hx hb dX1_leads_71 (lv_at hl 1 rfl) ?_
        refine lv_aload_n hx hb dX1_leads_73 rfl (lv_at hl 6 rfl) ?_
        refine h_getN hx hb hts in_X7 hown hK (hW.k8 (w) ‹TL F N (w)›) rfl 1 (by decide) q595 rfl (v := .ref (ad 3 (toW N (w)))) rfl dX1_leads_74 ?_
        refine h_getN hx hb hts in_X3 hown hK (hW.k3 (toW N (w)) (by omega)) rfl 0 (by decide) q459 rfl (v := .int (iI (toW N (w)))) rfl dX1_leads_77 ?_
        refine ri_top (b := to) (by rw [hto]) ?_
        refine rc_V (W.runS (As := [.int (iI (few)), .int (iI (to))]) (rest := [.ref (ad 0 (1)), .int (iI (e1 (10 * n + to)))]) ⟨hx, hb, hml, hown, hts⟩ (cc_X1_at l D cA few to ) (va_cwS 2 hts (lw_S q696 q697 q42 q698) rfl rfl rfl (by decide +kernel) ⟨Nat.le_of_ble_eq_true rfl, Nat.le_of_ble_eq_true rfl⟩) (preS hK (B := fun _ => True) trivial) rfl rfl hl.1 rfl (lv_room (Nat.le_of_ble_eq_true rfl)) dX1_leads_80 ⟨by first | exact Nat.le_of_ble_eq_true rfl | (show _ ≤ 6; omega), by first | exact Nat.le_of_ble_eq_true rfl | (show _ ≤ 1209; omega)⟩) ?_
        refine h_iald hx hb hK hW.c1 (10 * few + to) (by omega) (by omega) (by decide) dX1_leads_83 ?_
        refine W.eq (g2 := F0 m 84 ls [.int (iI (e1 (10 * few + to))), .int (iI (e1 (10 * n + to)))]) rfl ?_
        have b23 : -1 ≤ e1 (10 * few + to) ∧ e1 (10 * few + to) ≤ 1000000 := heb1 _
        refine ri_icmp_ge (tgt := 91) hx hb (by unfold inR; omega) (by unfold inR; omega) dX1_leads_84 (by decide) (fun h24 => ?_) (fun h24 => ?_)
        · skip
          refine lv_iinc (v := iI ((n + 1 : Nat))) (lv' := [(7, .int (iI ((n + 1 : Nat)))), (6, .int (iI (few))), (5, .int (iI (m0))), (4, .int (iI (s0))), (3, .int (iI (l0))), (0, .ref (ad 0 (0))), (1, .ref (ad 8 (w))), (2, .int (iI (na)))]) hx hb dX1_leads_91 hl (k := 0) rfl (iI_succ _) (by decide) rfl (fun ls hl => ?_)
          refine lv_goto (tgt := 44) hx hb dX1_leads_94 (by decide) ?_
          exact ih44 (n + 1) (few) (by omega) (by omega) (by omega) (fun x hx => by rcases Nat.lt_or_ge x n with q | q; exact hmin x q; rw [show x = n by omega]; omega) hst (by omega) _ _ _ hW hS (lv_sub hl [0, 1, 2, 3, 4, 5, 6, 7] rfl)
        · skip
          refine lv_iload hx hb dX1_leads_87 (lv_at hl 0 rfl) ?_
          refine lv_istore (lv' := [(6, .int (iI (n))), (7, .int (iI (n))), (5, .int (iI (m0))), (4, .int (iI (s0))), (3, .int (iI (l0))), (0, .ref (ad 0 (0))), (1, .ref (ad 8 (w))), (2, .int (iI (na)))]) hx hb dX1_leads_89 hl (by decide) rfl (fun ls hl => ?_)
          refine lv_iinc (v := iI ((n + 1 : Nat))) (lv' := [(7, .int (iI ((n + 1 : Nat)))), (6, .int (iI (n))), (5, .int (iI (m0))), (4, .int (iI (s0))), (3, .int (iI (l0))), (0, .ref (ad 0 (0))), (1, .ref (ad 8 (w))), (2, .int (iI (na)))]) hx hb dX1_leads_91 hl (k := 1) rfl (iI_succ _) (by decide) rfl (fun ls hl => ?_)
          refine lv_goto (tgt := 44) hx hb dX1_leads_94 (by decide) ?_
          exact ih44 (n + 1) (n) (by omega) (by omega) (by omega) (fun x hx => by rcases Nat.lt_or_ge x n with q | q; have := hmin x q; omega; rw [show x = n by omega]; exact Int.le_refl _) (fun x hx => by have := hmin x hx; omega) (by omega) _ _ _ hW hS (lv_sub hl [0, 1, 2, 3, 4, 5, 6, 7] rfl)
  exact lp44 _ (1) (0) (Nat.le_refl _) (by omega) (by omega) (fun x hx => by rw [show x = 0 by omega]; exact Int.le_refl _) (fun x hx => absurd hx (Nat.not_lt_zero _)) (Nat.lt_succ_self _) _ _ _ hW hS (lv_sub hl [0, 1, 2, 3, 4, 5, 6, 7] rfl)
