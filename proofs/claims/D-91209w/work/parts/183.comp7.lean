set_option maxRecDepth 100000
set_option maxHeartbeats 4000000 in
set_option maxRecDepth 100000 in
theorem cc_X1_plan (l : Launch) (D : va_G) (cA : Nat → ClassId) (A : Nat → Prop) (sa : Nat → Nat) (ad : Nat → Nat → Nat) (F : Nat → Nat) (N : Nat → Nat → Nat) (Z : Nat → Int) (E : Nat → Nat → Int) (K : Nat) (hKb : K ≤ 1000000) (hF : FB F) (hN : NB N) (hZ : ZB K Z) (hwf : WF F N) (hK3 : K + 200 ≤ 1000000) : Met l yX1_plan (ws_ yX1_plan cX1_plan 4 (some .int)) ({ frames := 8, cells := 360, slots := 72540, locals := 240 }) (PC D cA A sa ad F N Z E [.ref (ad 0 (0))]) (Qi (fun z H' => ∃ ad' E', ad' 0 0 = ad 0 0 ∧ z = ((pcIt F N Z (F 4)).2.2 : Nat) ∧ NB (pcIt F N Z (F 4)).1 ∧ WF F (pcIt F N Z (F 4)).1 ∧ ZB (K + 180) (pcIt F N Z (F 4)).2.1 ∧ CW D cA A sa ad' F (pcIt F N Z (F 4)).1 (pcIt F N Z (F 4)).2.1 E' H') A) 360 72540 (A) := by
  refine Met.ofW (cc := cX1_plan) (maxL := 4) (ret := (some .int)) (by decide) rfl ?_
  intro p e s m args below meth c s₁ B hml hv
  obtain ⟨rfl, hK, hW⟩ := hv
  have hx := B.exec
  have hb := B.bytes
  have hr := B.returns
  have hts := atoms_spec (ws := ws_ yX1_plan cX1_plan 4 (some .int)) B.pre
  have hts : ∀ w ∈ lw_all, w.before _ s = true := fun w h => hts w (List.mem_cons_of_mem _ h)
  have hown : s.vm.findClass RX1 = some m.cls := findClass_of_methodNamed B.named
  have hlocks := B.notSynchronized
  have hl := lv_entry ([.ref (ad 0 (0))]) (n := 4) (Nat.le_of_ble_eq_true rfl)
  rw [lg_entry_eq]
  generalize (lg_sl ([.ref (ad 0 (0))]) ++ List.replicate (4 - (lg_sl ([.ref (ad 0 (0))])).length) Slot.unset).toArray = ls at hl ⊢
  have hl : lv_has ls 4 [(0, .ref (ad 0 (0)))] := hl
  obtain ⟨hSX, hW⟩ := hW
  have hS : va_S A s.heap s.heap [] := va_S.rf
  have hF2 : F 2 ≤ 10 := hF 2
  have hF3 : F 3 ≤ 16 := hF 3
  have hF4 : F 4 ≤ 60 := hF 4
  have hF5 : F 5 ≤ 40 := hF 5
  have hF1 : F 1 ≤ 1439 := hF 1
  refine lv_iconst (v := iI (0)) hx hb dX1_plan_0 rfl ?_
  refine lv_istore_n (lv' := [(1, .int (iI (0))), (0, .ref (ad 0 (0)))]) hx hb dX1_plan_1 rfl hl (by decide) rfl (fun ls hl => ?_)
  refine lv_iconst (v := iI (0)) hx hb dX1_plan_2 rfl ?_
  refine lv_istore_n (lv' := [(2, .int (iI (0))), (1, .int (iI (0))), (0, .ref (ad 0 (0)))]) hx hb dX1_plan_3 rfl hl (by decide) rfl (fun ls hl => ?_)
  have lp4 : ∀ (fuel : Nat) (b cn : Nat) (adc Nc : Nat → Nat → Nat) (Zc : Nat → Int) (Ec : Nat → Nat → Int) (hb4 : b ≤ F 4) (hcn : cn ≤ b) (hN : NB Nc) (hwf : WF F Nc) (hZ : ZB (K + 3 * b) Zc) (hP : pcIt F N Z b = (Nc, Zc, cn)) (hc0 : adc 0 0 = ad 0 0) (heC : eqC N Nc), F 4 - b < fuel → ∀ (H : Heap) (locs : List Loc) (ls : Array Slot), CW D cA A sa adc F Nc Zc Ec H → va_S A s.heap H locs → lv_has ls 4 [(2, .int (iI (b))), (1, .int (iI (cn))), (0, .ref (adc 0 (0)))] → W p l e (headSpec (ws_ yX1_plan cX1_plan 4 (some .int)) ({ frames := 8, cells := 360, slots := 72540, locals := 240 })).room s m ([.ref (ad 0 (0))] : List Value).toArray below meth c H locs (6 * b) (1209 * b) (MQ below (Qi (fun z H' => ∃ ad' E', ad' 0 0 = ad 0 0 ∧ z = ((pcIt F N Z (F 4)).2.2 : Nat) ∧ NB (pcIt F N Z (F 4)).1 ∧ WF F (pcIt F N Z (F 4)).1 ∧ ZB (K + 180) (pcIt F N Z (F 4)).2.1 ∧ CW D cA A sa ad' F (pcIt F N Z (F 4)).1 (pcIt F N Z (F 4)).2.1 E' H') A) ([.ref (ad 0 (0))] : List Value).toArray s 360 72540 (A)) (F0 m 4 ls []) := by
    intro fuel
    induction fuel with
    | zero => intro b cn adc Nc Zc Ec hb4 hcn hN hwf hZ hP hc0 heC hm; exact absurd hm (Nat.not_lt_zero _)
    | succ fuel ih4 =>
      intro b cn adc Nc Zc Ec hb4 hcn hN hwf hZ hP hc0 heC hm4 H locs ls hW hS hl
      refine lv_iload_n hx hb dX1_plan_4 rfl (lv_at hl 0 rfl) ?_
      refine lv_aload_n hx hb dX1_plan_5 rfl (lv_at hl 2 rfl) ?_
      refine h_get hx hb hts in_X1 hown hK hW.c0 rfl 2 (by decide) (hts _ q423) rfl (v := .ref (adc 1 (2))) rfl dX1_plan_6 ?_
      obtain ⟨mc1, cp1, cq1, cr1, hLi1⟩ := hW.l2
      refine rc_V (W.runV (As := []) (rest := [.int (iI (b))]) ⟨hx, hb, hml, hown, hts⟩ (al_size l D cA (adc 1 (2)) mc1 (adc 2 (2)) (F 4)) (cwV 0 hts (lw_V q448 q449 q450 q45 q451) rfl rfl rfl (by decide +kernel) ⟨Nat.le_of_ble_eq_true rfl, Nat.le_of_ble_eq_true rfl⟩) (preV hK hLi1.1 rfl hLi1.1) rfl rfl hl.1 rfl (lv_room (Nat.le_of_ble_eq_true rfl)) dX1_plan_9 ⟨by first | exact Nat.le_of_ble_eq_true rfl | (show _ ≤ 360; omega), by first | exact Nat.le_of_ble_eq_true rfl | (show _ ≤ 72540; omega)⟩) ?_
      refine ri_icmp_ge (tgt := 106) hx hb (by unfold inR; omega) (by unfold inR; omega) dX1_plan_12 (by decide) (fun h2 => ?_) (fun h2 => ?_)
      · skip
        refine lv_iload_n hx hb dX1_plan_106 rfl (lv_at hl 1 rfl) ?_
        refine W.widen (k := 360) (n := 72540) (by omega) (by omega) ?_
        exact W.iret hx hb hr (fun tt htt hWm => ⟨⟨_, rfl, by rw [htt]; exact ⟨adc, Ec, hc0, by rw [show F 4 = b by omega, hP]; exact ⟨rfl, hN, hwf, hZ.mono (by omega), hW⟩⟩⟩, hS.F htt⟩) hS.2.2 dX1_plan_107
      · skip
        refine lv_aload_n hx hb dX1_plan_15 rfl (lv_at hl 2 rfl) ?_
        refine h_get hx hb hts in_X1 hown hK hW.c0 rfl 2 (by decide) (hts _ q423) rfl (v := .ref (adc 1 (2))) rfl dX1_plan_16 ?_
        refine lv_iload_n hx hb dX1_plan_19 rfl (lv_at hl 0 rfl) ?_
        obtain ⟨mc3, cp3, cq3, cr3, hLi3⟩ := hW.l2
        refine rc_V (W.runV (As := [.int (iI (b))]) (rest := []) ⟨hx, hb, hml, hown, hts⟩ (al_get l D cA (adc 1 (2)) mc3 (adc 2 (2)) (F 4) cp3 (adc 7) (b) (by omega)) (cwV 1 hts (lw_V q565 q566 q567 q45 q568) rfl rfl rfl (by decide +kernel) ⟨Nat.le_of_ble_eq_true rfl, Nat.le_of_ble_eq_true rfl⟩) (preV hK hLi3.1 rfl hLi3) rfl rfl hl.1 rfl (lv_room (Nat.le_of_ble_eq_true rfl)) dX1_plan_20 ⟨by first | exact Nat.le_of_ble_eq_true rfl | (show _ ≤ 360; omega), by first | exact Nat.le_of_ble_eq_true rfl | (show _ ≤ 72540; omega)⟩) ?_
        refine h_cast (ci := 5) (q := (RX6, TX6, 6)) hx hb hown (hts _ q563) hK rfl (isO.of (hW.k7 (b) (by omega))) dX1_plan_23 ?_
        refine rc_V (W.runV (As := []) (rest := []) ⟨hx, hb, hml, hown, hts⟩ (cc_X6_trip l D cA A sa adc F Nc Zc Ec _ (by omega) hF hN hZ hwf b (by omega)) (cwV 0 hts (lw_V q654 q655 q656 q68 q657) rfl rfl rfl (by decide +kernel) ⟨Nat.le_of_ble_eq_true rfl, Nat.le_of_ble_eq_true rfl⟩) (preVC hK hSX hS (hW.k7 (b) (by omega)) rfl hW) rfl rfl hl.1 rfl (lv_room (Nat.le_of_ble_eq_true rfl)) dX1_plan_26 ⟨by first | exact Nat.le_of_ble_eq_true rfl | (show _ ≤ 360; omega), by first | exact Nat.le_of_ble_eq_true rfl | (show _ ≤ 72540; omega)⟩) ?_
        have b4 : TL F Nc (wayN Nc b) := TL_way hN (by omega)
        have b5 : wayN Nc b < 120 := wayN_lt hN (by omega)
        refine lv_astore_n (lv' := [(3, .ref (adc 8 (wayN Nc b))), (2, .int (iI (b))), (1, .int (iI (cn))), (0, .ref (adc 0 (0)))]) hx hb dX1_plan_29 rfl hl (by decide) rfl (fun ls hl => ?_)
        refine lv_aload_n hx hb dX1_plan_30 rfl (lv_at hl 0 rfl) ?_
        have b6 : Nc 25 (wayN Nc b) ≤ 2 := hwf.2.2.2 _
        refine h_getN hx hb hts in_X7 hown hK (hW.k8 (wayN Nc b) ‹TL F Nc (wayN Nc b)›) rfl 7 (by decide) q604 rfl (v := .ref (sa (Nc 25 (wayN Nc b)))) rfl dX1_plan_31 ?_
        refine va_gets (v := .ref (sa 1)) hx hb hSX.2.2.2.2.2.1 hS hown (hts _ q658) (fun _ h => h) dX1_plan_34 ?_
        refine r_acmp_eq (P := (Nc 25 (wayN Nc b)) = 1) (tgt := 100) hx hb (hSX.ne (by omega) (by omega)) dX1_plan_37 (by decide) (fun h7 => ?_) (fun h7 => ?_)
        · skip
          refine lv_iinc (v := iI ((b + 1 : Nat))) (lv' := [(2, .int (iI ((b + 1 : Nat)))), (3, .ref (adc 8 (wayN Nc b))), (1, .int (iI (cn))), (0, .ref (adc 0 (0)))]) hx hb dX1_plan_100 hl (k := 1) rfl (iI_succ _) (by decide) rfl (fun ls hl => ?_)
          refine lv_goto (tgt := 4) hx hb dX1_plan_103 (by decide) ?_
          have hP2 : pcIt F N Z (b + 1) = (Nc, Zc, cn) := by
            show pcStep F (pcIt F N Z b) b = _
            rw [hP]; unfold pcStep; dsimp only; rw [if_pos (by omega)]
          have hZ := hZ.mono (show K + 3 * b ≤ K + 3 * (b + 1) by omega)
          refine W.widen (k := 6 * (b + 1)) (n := 1209 * (b + 1)) (by omega) (by omega) ?_
          exact ih4 (b + 1) (cn) (adc) (Nc) (Zc) (Ec) (by omega) (by omega) hN hwf hZ hP2 hc0 heC (by omega) _ _ _ hW hS (lv_sub hl [0, 2, 3] rfl)
        · skip
          refine lv_aload_n hx hb dX1_plan_40 rfl (lv_at hl 0 rfl) ?_
          refine h_getN hx hb hts in_X7 hown hK (hW.k8 (wayN Nc b) ‹TL F Nc (wayN Nc b)›) rfl 7 (by decide) q604 rfl (v := .ref (sa (Nc 25 (wayN Nc b)))) rfl dX1_plan_41 ?_
          refine va_gets (v := .ref (sa 0)) hx hb hSX.2.2.2.2.1 hS hown (hts _ q660) (fun _ h => h) dX1_plan_44 ?_
          refine r_acmp_ne (P := (Nc 25 (wayN Nc b)) = 0) (tgt := 64) hx hb (hSX.ne (by omega) (by omega)) dX1_plan_47 (by decide) (fun h8 => ?_) (fun h8 => ?_)
          · skip
            refine lv_aload_n hx hb dX1_plan_64 rfl (lv_at hl 3 rfl) ?_
            refine lv_aload_n hx hb dX1_plan_65 rfl (lv_at hl 0 rfl) ?_
            refine lv_aload_n hx hb dX1_plan_66 rfl (lv_at hl 0 rfl) ?_
            refine h_getN hx hb hts in_X7 hown hK (hW.k8 (wayN Nc b) ‹TL F Nc (wayN Nc b)›) rfl 7 (by decide) q604 rfl (v := .ref (sa (Nc 25 (wayN Nc b)))) rfl dX1_plan_67 ?_
            refine va_gets (v := .ref (sa 0)) hx hb hSX.2.2.2.2.1 hS hown (hts _ q660) (fun _ h => h) dX1_plan_70 ?_
            refine r_acmp_ne (P := (Nc 25 (wayN Nc b)) = 0) (tgt := 80) hx hb (hSX.ne (by omega) (by omega)) dX1_plan_73 (by decide) (fun h9 => ?_) (fun h9 => ?_)
            · skip
              refine lv_aload_n hx hb dX1_plan_80 rfl (lv_at hl 0 rfl) ?_
              have b10 : Nc 26 (wayN Nc b) ≤ 2000 := hN 26 _
              refine h_getN hx hb hts in_X7 hown hK (hW.k8 (wayN Nc b) ‹TL F Nc (wayN Nc b)›) rfl 8 (by decide) q605 rfl (v := .int (iI (Nc 26 (wayN Nc b)))) rfl dX1_plan_81 ?_
              refine lv_aload_n hx hb dX1_plan_84 rfl (lv_at hl 3 rfl) ?_
              refine h_get hx hb hts in_X1 hown hK hW.c0 rfl 4 (by decide) (hts _ q425) rfl (v := .int (iI (F 1))) rfl dX1_plan_85 ?_
              refine ri_mmax hx hb hml hl.1 hown (hts _ q661) (hts _ q194) (hts _ q55) (hts _ q195) (by unfold inR; omega) (by unfold inR; omega) (Nat.le_of_ble_eq_true rfl) (Nat.le_of_ble_eq_true rfl) (by first | exact Nat.le_of_ble_eq_true rfl | (show _ ≤ 360; omega) | (show _ ≤ 72540; omega)) (by first | exact Nat.le_of_ble_eq_true rfl | (show _ ≤ 360; omega) | (show _ ≤ 72540; omega)) dX1_plan_88 ?_
              refine ri_top (b := (max (Nc 26 (wayN Nc b)) (F 1) : Nat)) (max_eq _ _) ?_
              refine rc_I (W.runV (As := [.ref (adc 8 (wayN Nc b)), .int (iI ((max (Nc 26 (wayN Nc b)) (F 1) : Nat)))]) (rest := []) ⟨hx, hb, hml, hown, hts⟩ (cc_X1_leads l D cA A sa adc F Nc Zc Ec _ (by omega) hF hN hZ hwf (wayN Nc b) ((max (Nc 26 (wayN Nc b)) (F 1) : Nat)) _ _ _ _ ‹_› (by omega) rfl rfl rfl rfl (by omega)) (cwV 2 hts (lw_V q662 q664 qs5 q42 q665) rfl rfl rfl (by decide +kernel) ⟨Nat.le_of_ble_eq_true rfl, Nat.le_of_ble_eq_true rfl⟩) (preVC hK hSX hS hW.c0 rfl hW) rfl rfl hl.1 rfl (lv_room (Nat.le_of_ble_eq_true rfl)) dX1_plan_91 ⟨by first | exact Nat.le_of_ble_eq_true rfl | (show _ ≤ 360; omega), by first | exact Nat.le_of_ble_eq_true rfl | (show _ ≤ 72540; omega)⟩) hS (fun _ _ h => h) (fun _ h => h) (fun zr H locs hq hS hz hk => ?_)
              obtain ⟨adn, En, hagn, hzr, hN, hwf, hZ, hW⟩ := hq
              have hle := ldC_le (T := F 3) (N := Nc) (Z := Zc) (w := wayN Nc b) (na := (max (Nc 26 (wayN Nc b)) (F 1) : Nat))
              have heq := ldC_eqC (T := F 3) (N := Nc) (Z := Zc) (w := wayN Nc b) (na := (max (Nc 26 (wayN Nc b)) (F 1) : Nat))
              generalize hrr : ldC (F 3) Nc Zc (wayN Nc b) ((max (Nc 26 (wayN Nc b)) (F 1) : Nat)) = r at hzr hle heq hN hwf hZ hW
              subst hzr
              have ha0 : adn 0 0 = adc 0 0 := hagn 0 0 (by show 0 < 3; omega) (by decide) (by decide)
              refine ri_if_eq (tgt := 100) hx hb (by unfold inR; omega) dX1_plan_94 (by decide) (fun h11 => ?_) (fun h11 => ?_)
              · skip
                refine lv_iinc (v := iI ((b + 1 : Nat))) (lv' := [(2, .int (iI ((b + 1 : Nat)))), (3, .ref (adc 8 (wayN Nc b))), (1, .int (iI (cn))), (0, .ref (adc 0 (0)))]) hx hb dX1_plan_100 hl (k := 1) rfl (iI_succ _) (by decide) rfl (fun ls hl => ?_)
                refine lv_goto (tgt := 4) hx hb dX1_plan_103 (by decide) ?_
                have hP2 : pcIt F N Z (b + 1) = (r.1, r.2.1, cn) := by
                  show pcStep F (pcIt F N Z b) b = _
                  rw [hP]; unfold pcStep; dsimp only; rw [if_neg (by omega), show naC F Nc (wayN Nc b) = (max (Nc 26 (wayN Nc b)) (F 1) : Nat) from by unfold naC; first | rw [if_pos (by omega)] | rw [if_neg (by omega)], hrr, show r.2.2 = 0 by omega] <;> rfl
                have hZ := hZ.mono (show K + 3 * b + 3 ≤ K + 3 * (b + 1) by omega)
                rw [← ha0] at hl
                have ha0 := ha0.trans hc0
                have heC := heC.tr heq
                refine W.widen (k := 6 * (b + 1)) (n := 1209 * (b + 1)) (by omega) (by omega) ?_
                exact ih4 (b + 1) (cn) (adn) (r.1) (r.2.1) (En) (by omega) (by omega) hN hwf hZ hP2 ha0 heC (by omega) _ _ _ hW hS (lv_sub hl [0, 2, 3] rfl)
              · skip
                refine lv_iinc (v := iI ((cn + 1 : Nat))) (lv' := [(1, .int (iI ((cn + 1 : Nat)))), (3, .ref (adc 8 (wayN Nc b))), (2, .int (iI (b))), (0, .ref (adc 0 (0)))]) hx hb dX1_plan_97 hl (k := 2) rfl (iI_succ _) (by decide) rfl (fun ls hl => ?_)
                refine lv_iinc (v := iI ((b + 1 : Nat))) (lv' := [(2, .int (iI ((b + 1 : Nat)))), (1, .int (iI ((cn + 1 : Nat)))), (3, .ref (adc 8 (wayN Nc b))), (0, .ref (adc 0 (0)))]) hx hb dX1_plan_100 hl (k := 2) rfl (iI_succ _) (by decide) rfl (fun ls hl => ?_)
                refine lv_goto (tgt := 4) hx hb dX1_plan_103 (by decide) ?_
                have hP2 : pcIt F N Z (b + 1) = (r.1, r.2.1, (cn + 1 : Nat)) := by
                  show pcStep F (pcIt F N Z b) b = _
                  rw [hP]; unfold pcStep; dsimp only; rw [if_neg (by omega), show naC F Nc (wayN Nc b) = (max (Nc 26 (wayN Nc b)) (F 1) : Nat) from by unfold naC; first | rw [if_pos (by omega)] | rw [if_neg (by omega)], hrr, show r.2.2 = 1 by omega] <;> rfl
                have hZ := hZ.mono (show K + 3 * b + 3 ≤ K + 3 * (b + 1) by omega)
                rw [← ha0] at hl
                have ha0 := ha0.trans hc0
                have heC := heC.tr heq
                refine W.widen (k := 6 * (b + 1)) (n := 1209 * (b + 1)) (by omega) (by omega) ?_
                exact ih4 (b + 1) ((cn + 1 : Nat)) (adn) (r.1) (r.2.1) (En) (by omega) (by omega) hN hwf hZ hP2 ha0 heC (by omega) _ _ _ hW hS (lv_sub hl [0, 1, 3] rfl)
            · skip
              exfalso; omega
          · skip
            refine lv_aload_n hx hb dX1_plan_50 rfl (lv_at hl 0 rfl) ?_
            have b12 : rdW Nc (wayN Nc b) ≤ 1439 := rdW_le hN _
            refine h_getN hx hb hts in_X7 hown hK (hW.k8 (wayN Nc b) ‹TL F Nc (wayN Nc b)›) rfl 2 (by decide) q597 rfl (v := .int (iI (rdW Nc (wayN Nc b)))) rfl dX1_plan_51 ?_
            refine lv_aload_n hx hb dX1_plan_54 rfl (lv_at hl 3 rfl) ?_
            refine h_get hx hb hts in_X1 hown hK hW.c0 rfl 4 (by decide) (hts _ q425) rfl (v := .int (iI (F 1))) rfl dX1_plan_55 ?_
            refine ri_icmp_ge (tgt := 64) hx hb (by unfold inR; omega) (by unfold inR; omega) dX1_plan_58 (by decide) (fun h13 => ?_) (fun h13 => ?_)
            · skip
              refine lv_aload_n hx hb dX1_plan_64 rfl (lv_at hl 3 rfl) ?_
              refine lv_aload_n hx hb dX1_plan_65 rfl (lv_at hl 0 rfl) ?_
              refine lv_aload_n hx hb dX1_plan_66 rfl (lv_at hl 0 rfl) ?_
              refine h_getN hx hb hts in_X7 hown hK (hW.k8 (wayN Nc b) ‹TL F Nc (wayN Nc b)›) rfl 7 (by decide) q604 rfl (v := .ref (sa (Nc 25 (wayN Nc b)))) rfl dX1_plan_67 ?_
              refine va_gets (v := .ref (sa 0)) hx hb hSX.2.2.2.2.1 hS hown (hts _ q660) (fun _ h => h) dX1_plan_70 ?_
              refine r_acmp_ne (P := (Nc 25 (wayN Nc b)) = 0) (tgt := 80) hx hb (hSX.ne (by omega) (by omega)) dX1_plan_73 (by decide) (fun h14 => ?_) (fun h14 => ?_)
              · skip
                exfalso; omega
              · skip
                refine lv_iconst (v := iI (0)) hx hb dX1_plan_76 rfl ?_
                refine lv_goto (tgt := 91) hx hb dX1_plan_77 (by decide) ?_
                refine rc_I (W.runV (As := [.ref (adc 8 (wayN Nc b)), .int (iI (0))]) (rest := []) ⟨hx, hb, hml, hown, hts⟩ (cc_X1_leads l D cA A sa adc F Nc Zc Ec _ (by omega) hF hN hZ hwf (wayN Nc b) 0 _ _ _ _ ‹_› (by omega) rfl rfl rfl rfl (by omega)) (cwV 2 hts (lw_V q662 q664 qs5 q42 q665) rfl rfl rfl (by decide +kernel) ⟨Nat.le_of_ble_eq_true rfl, Nat.le_of_ble_eq_true rfl⟩) (preVC hK hSX hS hW.c0 rfl hW) rfl rfl hl.1 rfl (lv_room (Nat.le_of_ble_eq_true rfl)) dX1_plan_91 ⟨by first | exact Nat.le_of_ble_eq_true rfl | (show _ ≤ 360; omega), by first | exact Nat.le_of_ble_eq_true rfl | (show _ ≤ 72540; omega)⟩) hS (fun _ _ h => h) (fun _ h => h) (fun zr H locs hq hS hz hk => ?_)
                obtain ⟨adn, En, hagn, hzr, hN, hwf, hZ, hW⟩ := hq
                have hle := ldC_le (T := F 3) (N := Nc) (Z := Zc) (w := wayN Nc b) (na := 0)
                have heq := ldC_eqC (T := F 3) (N := Nc) (Z := Zc) (w := wayN Nc b) (na := 0)
                generalize hrr : ldC (F 3) Nc Zc (wayN Nc b) 0 = r at hzr hle heq hN hwf hZ hW
                subst hzr
                have ha0 : adn 0 0 = adc 0 0 := hagn 0 0 (by show 0 < 3; omega) (by decide) (by decide)
                refine ri_if_eq (tgt := 100) hx hb (by unfold inR; omega) dX1_plan_94 (by decide) (fun h15 => ?_) (fun h15 => ?_)
                · skip
                  refine lv_iinc (v := iI ((b + 1 : Nat))) (lv' := [(2, .int (iI ((b + 1 : Nat)))), (3, .ref (adc 8 (wayN Nc b))), (1, .int (iI (cn))), (0, .ref (adc 0 (0)))]) hx hb dX1_plan_100 hl (k := 1) rfl (iI_succ _) (by decide) rfl (fun ls hl => ?_)
                  refine lv_goto (tgt := 4) hx hb dX1_plan_103 (by decide) ?_
                  have hP2 : pcIt F N Z (b + 1) = (r.1, r.2.1, cn) := by
                    show pcStep F (pcIt F N Z b) b = _
                    rw [hP]; unfold pcStep; dsimp only; rw [if_neg (by omega), show naC F Nc (wayN Nc b) = 0 from by unfold naC; first | rw [if_pos (by omega)] | rw [if_neg (by omega)], hrr, show r.2.2 = 0 by omega] <;> rfl
                  have hZ := hZ.mono (show K + 3 * b + 3 ≤ K + 3 * (b + 1) by omega)
                  rw [← ha0] at hl
                  have ha0 := ha0.trans hc0
                  have heC := heC.tr heq
                  refine W.widen (k := 6 * (b + 1)) (n := 1209 * (b + 1)) (by omega) (by omega) ?_
                  exact ih4 (b + 1) (cn) (adn) (r.1) (r.2.1) (En) (by omega) (by omega) hN hwf hZ hP2 ha0 heC (by omega) _ _ _ hW hS (lv_sub hl [0, 2, 3] rfl)
                · skip
                  refine lv_iinc (v := iI ((cn + 1 : Nat))) (lv' := [(1, .int (iI ((cn + 1 : Nat)))), (3, .ref (adc 8 (wayN Nc b))), (2, .int (iI (b))), (0, .ref (adc 0 (0)))]) hx hb dX1_plan_97 hl (k := 2) rfl (iI_succ _) (by decide) rfl (fun ls hl => ?_)
                  refine lv_iinc (v := iI ((b + 1 : Nat))) (lv' := [(2, .int (iI ((b + 1 : Nat)))), (1, .int (iI ((cn + 1 : Nat)))), (3, .ref (adc 8 (wayN Nc b))), (0, .ref (adc 0 (0)))]) hx hb dX1_plan_100 hl (k := 2) rfl (iI_succ _) (by decide) rfl (fun ls hl => ?_)
                  refine lv_goto (tgt := 4) hx hb dX1_plan_103 (by decide) ?_
                  have hP2 : pcIt F N Z (b + 1) = (r.1, r.2.1, (cn + 1 : Nat)) := by
                    show pcStep F (pcIt F N Z b) b = _
                    rw [hP]; unfold pcStep; dsimp only; rw [if_neg (by omega), show naC F Nc (wayN Nc b) = 0 from by unfold naC; first | rw [if_pos (by omega)] | rw [if_neg (by omega)], hrr, show r.2.2 = 1 by omega] <;> rfl
                  have hZ := hZ.mono (show K + 3 * b + 3 ≤ K + 3 * (b + 1) by omega)
                  rw [← ha0] at hl
                  have ha0 := ha0.trans hc0
                  have heC := heC.tr heq
                  refine W.widen (k := 6 * (b + 1)) (n := 1209 * (b + 1)) (by omega) (by omega) ?_
                  exact ih4 (b + 1) ((cn + 1 : Nat)) (adn) (r.1) (r.2.1) (En) (by omega) (by omega) hN hwf hZ hP2 ha0 heC (by omega) _ _ _ hW hS (lv_sub hl [0, 1, 3] rfl)
            · skip
              refine lv_goto (tgt := 100) hx hb dX1_plan_61 (by decide) ?_
              refine lv_iinc (v := iI ((b + 1 : Nat))) (lv' := [(2, .int (iI ((b + 1 : Nat)))), (3, .ref (adc 8 (wayN Nc b))), (1, .int (iI (cn))), (0, .ref (adc 0 (0)))]) hx hb dX1_plan_100 hl (k := 1) rfl (iI_succ _) (by decide) rfl (fun ls hl => ?_)
              refine lv_goto (tgt := 4) hx hb dX1_plan_103 (by decide) ?_
              have hP2 : pcIt F N Z (b + 1) = (Nc, Zc, cn) := by
                show pcStep F (pcIt F N Z b) b = _
                rw [hP]; unfold pcStep; dsimp only; rw [if_pos (by omega)]
              have hZ := hZ.mono (show K + 3 * b ≤ K + 3 * (b + 1) by omega)
              refine W.widen (k := 6 * (b + 1)) (n := 1209 * (b + 1)) (by omega) (by omega) ?_
              exact ih4 (b + 1) (cn) (adc) (Nc) (Zc) (Ec) (by omega) (by omega) hN hwf hZ hP2 hc0 heC (by omega) _ _ _ hW hS (lv_sub hl [0, 2, 3] rfl)
  exact lp4 _ (0) (0) (ad) (N) (Z) (E) (Nat.zero_le _) (Nat.le_refl _) hN hwf hZ rfl rfl (eqC.rf N) (Nat.lt_succ_self _) _ _ _ hW hS (lv_sub hl [0, 1, 2] rfl)
