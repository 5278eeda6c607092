set_option maxRecDepth 100000
set_option maxHeartbeats 4000000 in
set_option maxRecDepth 100000 in
theorem cc_X1_cancel (l : Launch) (D : va_G) (cA : Nat → ClassId) (A : Nat → Prop) (sa : Nat → Nat) (ad : Nat → Nat → Nat) (F : Nat → Nat) (N : Nat → Nat → Nat) (Z : Nat → Int) (E : Nat → Nat → Int) (K : Nat) (hKb : K ≤ 1000000) (hF : FB F) (hN : NB N) (hZ : ZB K Z) (hwf : WF F N) (t : Nat) (ht : t < F 3) (hK3 : K + 400 ≤ 1000000) : Met l yX1_cancel (ws_ yX1_cancel cX1_cancel 6 (some .int)) ({ frames := 8, cells := 422, slots := 96545, locals := 240 }) (PC D cA A sa ad F N Z E [.ref (ad 0 (0)), .int (iI (t))]) (Qi (fun z H' => ((N 13 t = 0 ∧ N 8 t ≠ 0 ∧ F 1 < N 10 (10 * t + 0)) → ∃ ad' E', ad' 0 0 = ad 0 0 ∧ z = ((x1It t (up2 N 13 t 1) Z (F 4)).2.2.length : Nat) ∧ NB (x2It F (x1It t (up2 N 13 t 1) Z (F 4)).2.2 (x1It t (up2 N 13 t 1) Z (F 4)).1 (x1It t (up2 N 13 t 1) Z (F 4)).2.1 (x1It t (up2 N 13 t 1) Z (F 4)).2.2.length).1 ∧ WF F (x2It F (x1It t (up2 N 13 t 1) Z (F 4)).2.2 (x1It t (up2 N 13 t 1) Z (F 4)).1 (x1It t (up2 N 13 t 1) Z (F 4)).2.1 (x1It t (up2 N 13 t 1) Z (F 4)).2.2.length).1 ∧ ZB (K + 360) (x2It F (x1It t (up2 N 13 t 1) Z (F 4)).2.2 (x1It t (up2 N 13 t 1) Z (F 4)).1 (x1It t (up2 N 13 t 1) Z (F 4)).2.1 (x1It t (up2 N 13 t 1) Z (F 4)).2.2.length).2 ∧ CW D cA A sa ad' F (x2It F (x1It t (up2 N 13 t 1) Z (F 4)).2.2 (x1It t (up2 N 13 t 1) Z (F 4)).1 (x1It t (up2 N 13 t 1) Z (F 4)).2.1 (x1It t (up2 N 13 t 1) Z (F 4)).2.2.length).1 (x2It F (x1It t (up2 N 13 t 1) Z (F 4)).2.2 (x1It t (up2 N 13 t 1) Z (F 4)).1 (x1It t (up2 N 13 t 1) Z (F 4)).2.1 (x1It t (up2 N 13 t 1) Z (F 4)).2.2.length).2 E' H') ∧ (¬ (N 13 t = 0 ∧ N 8 t ≠ 0 ∧ F 1 < N 10 (10 * t + 0)) → z = -1 ∧ CW D cA A sa ad F N Z E H')) A) 422 96545 (A) := by
  refine Met.ofW (cc := cX1_cancel) (maxL := 6) (ret := (some .int)) (by decide) rfl ?_
  intro p e s m args below meth c s₁ B hml hv
  obtain ⟨rfl, hK, hW⟩ := hv
  have hx := B.exec
  have hb := B.bytes
  have hr := B.returns
  have hts := atoms_spec (ws := ws_ yX1_cancel cX1_cancel 6 (some .int)) B.pre
  have hts : ∀ w ∈ lw_all, w.before _ s = true := fun w h => hts w (List.mem_cons_of_mem _ h)
  have hown : s.vm.findClass RX1 = some m.cls := findClass_of_methodNamed B.named
  have hlocks := B.notSynchronized
  have hl := lv_entry ([.ref (ad 0 (0)), .int (iI (t))]) (n := 6) (Nat.le_of_ble_eq_true rfl)
  rw [lg_entry_eq]
  generalize (lg_sl ([.ref (ad 0 (0)), .int (iI (t))]) ++ List.replicate (6 - (lg_sl ([.ref (ad 0 (0)), .int (iI (t))])).length) Slot.unset).toArray = ls at hl ⊢
  have hl : lv_has ls 6 [(0, .ref (ad 0 (0))), (1, .int (iI (t)))] := hl
  obtain ⟨hSX, hW⟩ := hW
  have hS : va_S A s.heap s.heap [] := va_S.rf
  have hF2 : F 2 ≤ 10 := hF 2
  have hF3 : F 3 ≤ 16 := hF 3
  have hF4 : F 4 ≤ 60 := hF 4
  have hF5 : F 5 ≤ 40 := hF 5
  have hF1 : F 1 ≤ 1439 := hF 1
  refine lv_aload_n hx hb dX1_cancel_0 rfl (lv_at hl 0 rfl) ?_
  refine lv_iload_n hx hb dX1_cancel_1 rfl (lv_at hl 1 rfl) ?_
  refine rc_V (W.runV (As := [.int (iI (t))]) (rest := []) ⟨hx, hb, hml, hown, hts⟩ (cc_X1_trainAt l D cA A sa ad F N Z E _ (by omega) hF hN hZ hwf t (by omega)) (cwV 1 hts (lw_V q775 q777 qs10 q42 q778) rfl rfl rfl (by decide +kernel) ⟨Nat.le_of_ble_eq_true rfl, Nat.le_of_ble_eq_true rfl⟩) (preVC hK hSX hS hW.c0 rfl hW) rfl rfl hl.1 rfl (lv_room (Nat.le_of_ble_eq_true rfl)) dX1_cancel_2 ⟨by first | exact Nat.le_of_ble_eq_true rfl | (show _ ≤ 422; omega), by first | exact Nat.le_of_ble_eq_true rfl | (show _ ≤ 96545; omega)⟩) ?_
  refine lv_astore_n (lv' := [(2, .ref (ad 4 (t))), (0, .ref (ad 0 (0))), (1, .int (iI (t)))]) hx hb dX1_cancel_5 rfl hl (by decide) rfl (fun ls hl => ?_)
  refine lv_aload_n hx hb dX1_cancel_6 rfl (lv_at hl 0 rfl) ?_
  have b1 : N 13 (t) ≤ 1 := hN 13 _
  refine h_getN hx hb hts in_X4 hown hK (hW.k4 (t) (by omega)) rfl 4 (by decide) q536 rfl (v := .int (iI (N 13 (t)))) rfl dX1_cancel_7 ?_
  refine ri_if_ne (tgt := 44) hx hb (by unfold inR; omega) dX1_cancel_10 (by decide) (fun h2 => ?_) (fun h2 => ?_)
  · skip
    refine lv_iconst (v := iI (-1)) hx hb dX1_cancel_44 rfl ?_
    refine W.widen (k := 422) (n := 96545) (Nat.zero_le _) (Nat.zero_le _) ?_
    exact W.iret hx hb hr (fun tt htt hWm => ⟨⟨_, rfl, by rw [htt]; exact ⟨fun q => absurd q (by omega), fun _ => ⟨rfl, hW⟩⟩⟩, hS.F htt⟩) hS.2.2 dX1_cancel_45
  · skip
    refine lv_aload_n hx hb dX1_cancel_13 rfl (lv_at hl 0 rfl) ?_
    refine h_getN hx hb hts in_X4 hown hK (hW.k4 (t) (by omega)) rfl 2 (by decide) q533 rfl (v := .ref (ad 1 (10 + t))) rfl dX1_cancel_14 ?_
    have b4 : N 8 (t) ≤ 10 := hN 8 _
    obtain ⟨mc3, cp3, cq3, cr3, hLi3⟩ := (hW.lp (t) (by omega))
    refine rc_V (W.runV (As := []) (rest := []) ⟨hx, hb, hml, hown, hts⟩ (al_isEmpty l D cA (ad 1 (10 + t)) mc3 (ad 2 (10 + t)) (N 8 (t)) (by omega)) (cwV 0 hts (lw_V q811 q671 q672 q45 q673) rfl rfl rfl (by decide +kernel) ⟨Nat.le_of_ble_eq_true rfl, Nat.le_of_ble_eq_true rfl⟩) (preV hK hLi3.1 rfl hLi3.1) rfl rfl hl.1 rfl (lv_room (Nat.le_of_ble_eq_true rfl)) dX1_cancel_17 ⟨by first | exact Nat.le_of_ble_eq_true rfl | (show _ ≤ 422; omega), by first | exact Nat.le_of_ble_eq_true rfl | (show _ ≤ 96545; omega)⟩) ?_
    by_cases h5 : N 8 (t) = 0
    · refine ri_top (b := 1) (if_pos h5) ?_
      refine ri_if_ne (tgt := 44) hx hb (by unfold inR; omega) dX1_cancel_20 (by decide) (fun h6 => ?_) (fun h6 => ?_)
      · skip
        refine lv_iconst (v := iI (-1)) hx hb dX1_cancel_44 rfl ?_
        refine W.widen (k := 422) (n := 96545) (Nat.zero_le _) (Nat.zero_le _) ?_
        exact W.iret hx hb hr (fun tt htt hWm => ⟨⟨_, rfl, by rw [htt]; exact ⟨fun q => absurd q (by omega), fun _ => ⟨rfl, hW⟩⟩⟩, hS.F htt⟩) hS.2.2 dX1_cancel_45
      · skip
        exfalso; omega
    · refine ri_top (b := 0) (if_neg h5) ?_
      refine ri_if_ne (tgt := 44) hx hb (by unfold inR; omega) dX1_cancel_20 (by decide) (fun h7 => ?_) (fun h7 => ?_)
      · skip
        exfalso; omega
      · skip
        refine lv_aload_n hx hb dX1_cancel_23 rfl (lv_at hl 0 rfl) ?_
        refine h_getN hx hb hts in_X4 hown hK (hW.k4 (t) (by omega)) rfl 2 (by decide) q533 rfl (v := .ref (ad 1 (10 + t))) rfl dX1_cancel_24 ?_
        refine lv_iconst (v := iI (0)) hx hb dX1_cancel_27 rfl ?_
        obtain ⟨mc8, cp8, cq8, cr8, hLi8⟩ := (hW.lp (t) (by omega))
        refine rc_V (W.runV (As := [.int (iI (0))]) (rest := []) ⟨hx, hb, hml, hown, hts⟩ (al_get l D cA (ad 1 (10 + t)) mc8 (ad 2 (10 + t)) (N 8 (t)) cp8 (fun j => ad 6 (10 * t + j)) (0) (by omega)) (cwV 1 hts (lw_V q565 q566 q567 q45 q568) rfl rfl rfl (by decide +kernel) ⟨Nat.le_of_ble_eq_true rfl, Nat.le_of_ble_eq_true rfl⟩) (preV hK hLi8.1 rfl hLi8) rfl rfl hl.1 rfl (lv_room (Nat.le_of_ble_eq_true rfl)) dX1_cancel_28 ⟨by first | exact Nat.le_of_ble_eq_true rfl | (show _ ≤ 422; omega), by first | exact Nat.le_of_ble_eq_true rfl | (show _ ≤ 96545; omega)⟩) ?_
        refine h_cast (ci := 4) (q := (RX5, TX5, 2)) hx hb hown (hts _ q699) hK rfl (isO.of (hW.k6 (t) (0) (by omega) (by omega))) dX1_cancel_31 ?_
        have b9 : N 10 (10 * t + 0) ≤ 1439 := hN 10 _
        refine h_getN hx hb hts in_X5 hown hK (hW.k6 (t) (0) (by omega) (by omega)) rfl 1 (by decide) q821 rfl (v := .int (iI (N 10 (10 * t + 0)))) rfl dX1_cancel_34 ?_
        refine lv_aload_n hx hb dX1_cancel_37 rfl (lv_at hl 1 rfl) ?_
        refine h_get hx hb hts in_X1 hown hK hW.c0 rfl 4 (by decide) (hts _ q425) rfl (v := .int (iI (F 1))) rfl dX1_cancel_38 ?_
        refine ri_icmp_gt (tgt := 46) hx hb (by unfold inR; omega) (by unfold inR; omega) dX1_cancel_41 (by decide) (fun h10 => ?_) (fun h10 => ?_)
        · skip
          have hok : (N 13 t = 0 ∧ N 8 t ≠ 0 ∧ F 1 < N 10 (10 * t + 0)) := by omega
          refine lv_aload_n hx hb dX1_cancel_46 rfl (lv_at hl 0 rfl) ?_
          refine lv_iconst (v := iI (1)) hx hb dX1_cancel_47 rfl ?_
          refine h_putN hx hb hts in_X4 tyX4 tyX4_ok nmX4 hown hK (hW.k4 (t) (by omega)) hS (hW.hA 4 (t) (by show _ < _; omega)) rfl 4 (by decide) q536 rfl rfl (v := .int (iI (1))) rfl rfl rfl (Nat.le_of_ble_eq_true rfl) dX1_cancel_48 (fun H locs hP oq zq hS => ?_)
          have hP : va_at D CL (ad 4 (t), eT ad (up2 (N) 13 (t) (1)) (t)) H := by rw [eT, up2_eq]; exact hP
          have hW := hW.setT13 (v := 1) hF3 hN (by omega) hP oq zq
          have hN : NB (up2 (N) 13 (t) (1)) := hN.up (by show _ ≤ 1; omega)
          have hwf : WF F (up2 (N) 13 (t) (1)) := hwf
          have hlt51 := hW.lt hF3 hN
          have hgr51 := hW.2.2.2
          refine h_new hx hb hts in_J2 tyJ2 tyJ2_ok hown (hts _ q82) (hts _ q83) (hts _ q45) hK hS (ci := 8) rfl (fs := [.int (iI (0)), .null, .int (iI (0))]) (fun j hj => by match j, hj with | 0, _ => rfl | 1, _ => rfl | 2, _ => rfl) (Nat.le_of_ble_eq_true rfl) (Nat.le_of_ble_eq_true rfl) dX1_cancel_51 (fun sl H hq51 hXsl o1 z1 hS => ?_)
          have hAsl : A sl := hgr51 _ (by omega)
          have hW := hW.keptL hF3 hN (by omega) (fun k i hl => o1 _ (hlt51 k i hl))
          refine lv_dup hx hb dX1_cancel_54 rfl ?_
          refine lv_iconst (v := iI (2)) hx hb dX1_cancel_55 rfl ?_
          have hlt9 : sl < H.size := hXsl.lt
          refine rc_N (W.runI (As := [.int (iI (2))]) (rest := [.ref sl]) ⟨hx, hb, hml, hown, hts⟩ (al_init l D cA sl H.size 2 (by decide) (by decide)) (cwI 1 hts (lw_meth q86) rfl rfl rfl (hts _ q45) (hts _ q84) (hts _ q85) rfl (by decide +kernel) ⟨Nat.le_of_ble_eq_true rfl, Nat.le_of_ble_eq_true rfl⟩) (preS hK ⟨hXsl, rfl⟩) rfl rfl hl.1 rfl (lv_room (Nat.le_of_ble_eq_true rfl)) dX1_cancel_56 ⟨by first | exact Nat.le_of_ble_eq_true rfl | (show _ ≤ 422; omega), by first | exact Nat.le_of_ble_eq_true rfl | (show _ ≤ 96545; omega)⟩) hS (fun q _ h => by rcases h with h | h; rw [h]; exact hAsl; exact hgr51 _ (by omega)) (fun q h => by rcases h with h | h; rw [h]; exact hAsl; exact hgr51 _ (by omega)) (fun H locs hq hS hz hk => ?_)
          obtain ⟨se0, hse0, hLs⟩ := hq
          have hW := hW.keptL hF3 hN hz (fun k i hl => hk _ (by have := hlt51 k i hl; omega) (by have := hlt51 k i hl; omega))
          have hsl : ∀ k i, Lv F (up2 (N) 13 (t) (1)) k i → ad k i ≠ sl ∧ ad k i ≠ se0 := fun k i hl => by have := hlt51 k i hl; omega
          have hAse : A se0 := hgr51 _ (by omega)
          have hAsl := hAsl
          have hN1 := hN
          have hwf1 := hwf
          refine lv_astore_n (lv' := [(3, .ref sl), (2, .ref (ad 4 (t))), (0, .ref (ad 0 (0))), (1, .int (iI (t)))]) hx hb dX1_cancel_59 rfl hl (by decide) rfl (fun ls hl => ?_)
          refine lv_iconst (v := iI (0)) hx hb dX1_cancel_60 rfl ?_
          refine lv_istore (lv' := [(4, .int (iI (0))), (3, .ref sl), (2, .ref (ad 4 (t))), (0, .ref (ad 0 (0))), (1, .int (iI (t)))]) hx hb dX1_cancel_61 hl (by decide) rfl (fun ls hl => ?_)
          have lp63 : ∀ (fuel : Nat) (b : Nat) (Nc : Nat → Nat → Nat) (Zc : Nat → Int) (L : List Nat) (se cap : Nat) (mc : Int) (hb4 : b ≤ F 4) (hN : NB Nc) (hwf : WF F Nc) (hZ : ZB (K + 3 * b) Zc) (hP : x1It t (up2 N 13 t 1) Z b = (Nc, Zc, L)) (heC : eqC (up2 N 13 t 1) Nc) (hLl : L.length ≤ b) (hLw : ∀ j, j < L.length → TL F Nc (L.getD j 0)) (hsl : ∀ k i, Lv F Nc k i → ad k i ≠ sl ∧ ad k i ≠ se) (hAse : A se) (hc1 : 1 ≤ cap) (hc2 : cap ≤ 90), F 4 - b < fuel → ∀ (H : Heap) (locs : List Loc) (ls : Array Slot), CW D cA A sa ad F Nc Zc E H ∧ LiS D cA sl mc se L.length cap (fun j => ad 8 (L.getD j 0)) H → va_S A s.heap H locs → lv_has ls 6 [(4, .int (iI (b))), (3, .ref sl), (2, .ref (ad 4 (t))), (0, .ref (ad 0 (0))), (1, .int (iI (t)))] → W p l e (headSpec (ws_ yX1_cancel cX1_cancel 6 (some .int)) ({ frames := 8, cells := 422, slots := 96545, locals := 240 })).room s m ([.ref (ad 0 (0)), .int (iI (t))] : List Value).toArray below meth c H locs (2 + b) (5 + 400 * b) (MQ below (Qi (fun z H' => ((N 13 t = 0 ∧ N 8 t ≠ 0 ∧ F 1 < N 10 (10 * t + 0)) → ∃ ad' E', ad' 0 0 = ad 0 0 ∧ z = ((x1It t (up2 N 13 t 1) Z (F 4)).2.2.length : Nat) ∧ NB (x2It F (x1It t (up2 N 13 t 1) Z (F 4)).2.2 (x1It t (up2 N 13 t 1) Z (F 4)).1 (x1It t (up2 N 13 t 1) Z (F 4)).2.1 (x1It t (up2 N 13 t 1) Z (F 4)).2.2.length).1 ∧ WF F (x2It F (x1It t (up2 N 13 t 1) Z (F 4)).2.2 (x1It t (up2 N 13 t 1) Z (F 4)).1 (x1It t (up2 N 13 t 1) Z (F 4)).2.1 (x1It t (up2 N 13 t 1) Z (F 4)).2.2.length).1 ∧ ZB (K + 360) (x2It F (x1It t (up2 N 13 t 1) Z (F 4)).2.2 (x1It t (up2 N 13 t 1) Z (F 4)).1 (x1It t (up2 N 13 t 1) Z (F 4)).2.1 (x1It t (up2 N 13 t 1) Z (F 4)).2.2.length).2 ∧ CW D cA A sa ad' F (x2It F (x1It t (up2 N 13 t 1) Z (F 4)).2.2 (x1It t (up2 N 13 t 1) Z (F 4)).1 (x1It t (up2 N 13 t 1) Z (F 4)).2.1 (x1It t (up2 N 13 t 1) Z (F 4)).2.2.length).1 (x2It F (x1It t (up2 N 13 t 1) Z (F 4)).2.2 (x1It t (up2 N 13 t 1) Z (F 4)).1 (x1It t (up2 N 13 t 1) Z (F 4)).2.1 (x1It t (up2 N 13 t 1) Z (F 4)).2.2.length).2 E' H') ∧ (¬ (N 13 t = 0 ∧ N 8 t ≠ 0 ∧ F 1 < N 10 (10 * t + 0)) → z = -1 ∧ CW D cA A sa ad F N Z E H')) A) ([.ref (ad 0 (0)), .int (iI (t))] : List Value).toArray s 422 96545 (A)) (F0 m 63 ls []) := by
            intro fuel
            induction fuel with
            | zero => intro b Nc Zc L se cap mc hb4 hN hwf hZ hP heC hLl hLw hsl hAse hc1 hc2 hm; exact absurd hm (Nat.not_lt_zero _)
            | succ fuel ih63 =>
              intro b Nc Zc L se cap mc hb4 hN hwf hZ hP heC hLl hLw hsl hAse hc1 hc2 hm63 H locs ls hW hS hl
              obtain ⟨hW, hLs⟩ := hW
              refine lv_iload hx hb dX1_cancel_63 (lv_at hl 0 rfl) ?_
              refine lv_aload_n hx hb dX1_cancel_65 rfl (lv_at hl 3 rfl) ?_
              refine h_get hx hb hts in_X1 hown hK hW.c0 rfl 2 (by decide) (hts _ q423) rfl (v := .ref (ad 1 (2))) rfl dX1_cancel_66 ?_
              obtain ⟨mc11, cp11, cq11, cr11, hLi11⟩ := hW.l2
              refine rc_V (W.runV (As := []) (rest := [.int (iI (b))]) ⟨hx, hb, hml, hown, hts⟩ (al_size l D cA (ad 1 (2)) mc11 (ad 2 (2)) (F 4)) (cwV 0 hts (lw_V q448 q449 q450 q45 q451) rfl rfl rfl (by decide +kernel) ⟨Nat.le_of_ble_eq_true rfl, Nat.le_of_ble_eq_true rfl⟩) (preV hK hLi11.1 rfl hLi11.1) rfl rfl hl.1 rfl (lv_room (Nat.le_of_ble_eq_true rfl)) dX1_cancel_69 ⟨by first | exact Nat.le_of_ble_eq_true rfl | (show _ ≤ 422; omega), by first | exact Nat.le_of_ble_eq_true rfl | (show _ ≤ 96545; omega)⟩) ?_
              refine ri_icmp_ge (tgt := 123) hx hb (by unfold inR; omega) (by unfold inR; omega) dX1_cancel_72 (by decide) (fun h12 => ?_) (fun h12 => ?_)
              · skip
                rw [show b = F 4 by omega] at hP hLl
                have hZ := hZ.mono (show K + 3 * b ≤ K + 180 by omega)
                generalize hNf : Nc = Nf at hW hN hwf hP heC hLw hsl
                generalize hZf : Zc = Zf at hW hZ hP
                refine W.widen (k := 62) (n := 24005) (by omega) (by omega) ?_
                refine lv_iconst (v := iI (0)) hx hb dX1_cancel_123 rfl ?_
                refine lv_istore (lv' := [(4, .int (iI (0))), (3, .ref sl), (2, .ref (ad 4 (t))), (0, .ref (ad 0 (0))), (1, .int (iI (t)))]) hx hb dX1_cancel_124 hl (by decide) rfl (fun ls hl => ?_)
                have lp126 : ∀ (fuel : Nat) (k : Nat) (adc Nc : Nat → Nat → Nat) (Zc : Nat → Int) (Ec : Nat → Nat → Int) (hk9 : k ≤ L.length) (hN : NB Nc) (hwf : WF F Nc) (hZ : ZB (K + 180 + 3 * k) Zc) (hP2 : x2It F L Nf Zf k = (Nc, Zc)) (hc0 : adc 0 0 = ad 0 0) (h8 : ∀ j, j < L.length → adc 8 (L.getD j 0) = ad 8 (L.getD j 0)) (htlL : ∀ j, j < L.length → TL F Nc (L.getD j 0)) (hsl : ∀ k i, Lv F Nc k i → adc k i ≠ sl ∧ adc k i ≠ se), L.length - k < fuel → ∀ (H : Heap) (locs : List Loc) (ls : Array Slot), CW D cA A sa adc F Nc Zc Ec H ∧ LiS D cA sl mc se L.length cap (fun j => ad 8 (L.getD j 0)) H → va_S A s.heap H locs → lv_has ls 6 [(4, .int (iI (k))), (3, .ref sl), (0, .ref (adc 0 (0))), (1, .int (iI (t)))] → W p l e (headSpec (ws_ yX1_cancel cX1_cancel 6 (some .int)) ({ frames := 8, cells := 422, slots := 96545, locals := 240 })).room s m ([.ref (ad 0 (0)), .int (iI (t))] : List Value).toArray below meth c H locs (62 + 6 * k) (24005 + 1209 * k) (MQ below (Qi (fun z H' => ((N 13 t = 0 ∧ N 8 t ≠ 0 ∧ F 1 < N 10 (10 * t + 0)) → ∃ ad' E', ad' 0 0 = ad 0 0 ∧ z = ((x1It t (up2 N 13 t 1) Z (F 4)).2.2.length : Nat) ∧ NB (x2It F (x1It t (up2 N 13 t 1) Z (F 4)).2.2 (x1It t (up2 N 13 t 1) Z (F 4)).1 (x1It t (up2 N 13 t 1) Z (F 4)).2.1 (x1It t (up2 N 13 t 1) Z (F 4)).2.2.length).1 ∧ WF F (x2It F (x1It t (up2 N 13 t 1) Z (F 4)).2.2 (x1It t (up2 N 13 t 1) Z (F 4)).1 (x1It t (up2 N 13 t 1) Z (F 4)).2.1 (x1It t (up2 N 13 t 1) Z (F 4)).2.2.length).1 ∧ ZB (K + 360) (x2It F (x1It t (up2 N 13 t 1) Z (F 4)).2.2 (x1It t (up2 N 13 t 1) Z (F 4)).1 (x1It t (up2 N 13 t 1) Z (F 4)).2.1 (x1It t (up2 N 13 t 1) Z (F 4)).2.2.length).2 ∧ CW D cA A sa ad' F (x2It F (x1It t (up2 N 13 t 1) Z (F 4)).2.2 (x1It t (up2 N 13 t 1) Z (F 4)).1 (x1It t (up2 N 13 t 1) Z (F 4)).2.1 (x1It t (up2 N 13 t 1) Z (F 4)).2.2.length).1 (x2It F (x1It t (up2 N 13 t 1) Z (F 4)).2.2 (x1It t (up2 N 13 t 1) Z (F 4)).1 (x1It t (up2 N 13 t 1) Z (F 4)).2.1 (x1It t (up2 N 13 t 1) Z (F 4)).2.2.length).2 E' H') ∧ (¬ (N 13 t = 0 ∧ N 8 t ≠ 0 ∧ F 1 < N 10 (10 * t + 0)) → z = -1 ∧ CW D cA A sa ad F N Z E H')) A) ([.ref (ad 0 (0)), .int (iI (t))] : List Value).toArray s 422 96545 (A)) (F0 m 126 ls []) := by
                  intro fuel
                  induction fuel with
                  | zero => intro k adc Nc Zc Ec hk9 hN hwf hZ hP2 hc0 h8 htlL hsl hm; exact absurd hm (Nat.not_lt_zero _)
                  | succ fuel ih126 =>
                    intro k adc Nc Zc Ec hk9 hN hwf hZ hP2 hc0 h8 htlL hsl hm126 H locs ls hW hS hl
                    obtain ⟨hW, hLs⟩ := hW
                    refine lv_iload hx hb dX1_cancel_126 (lv_at hl 0 rfl) ?_
                    refine lv_aload_n hx hb dX1_cancel_128 rfl (lv_at hl 1 rfl) ?_
                    refine rc_V (W.runV (As := []) (rest := [.int (iI (k))]) ⟨hx, hb, hml, hown, hts⟩ (al_size l D cA sl mc se L.length) (cwV 0 hts (lw_V q448 q449 q450 q45 q451) rfl rfl rfl (by decide +kernel) ⟨Nat.le_of_ble_eq_true rfl, Nat.le_of_ble_eq_true rfl⟩) (preV hK hLs.1 rfl hLs.1) rfl rfl hl.1 rfl (lv_room (Nat.le_of_ble_eq_true rfl)) dX1_cancel_129 ⟨by first | exact Nat.le_of_ble_eq_true rfl | (show _ ≤ 422; omega), by first | exact Nat.le_of_ble_eq_true rfl | (show _ ≤ 96545; omega)⟩) ?_
                    refine ri_icmp_ge (tgt := 193) hx hb (by unfold inR; omega) (by unfold inR; omega) dX1_cancel_132 (by decide) (fun h13 => ?_) (fun h13 => ?_)
                    · skip
                      refine lv_aload_n hx hb dX1_cancel_193 rfl (lv_at hl 1 rfl) ?_
                      refine rc_V (W.runV (As := []) (rest := []) ⟨hx, hb, hml, hown, hts⟩ (al_size l D cA sl mc se L.length) (cwV 0 hts (lw_V q448 q449 q450 q45 q451) rfl rfl rfl (by decide +kernel) ⟨Nat.le_of_ble_eq_true rfl, Nat.le_of_ble_eq_true rfl⟩) (preV hK hLs.1 rfl hLs.1) rfl rfl hl.1 rfl (lv_room (Nat.le_of_ble_eq_true rfl)) dX1_cancel_194 ⟨by first | exact Nat.le_of_ble_eq_true rfl | (show _ ≤ 422; omega), by first | exact Nat.le_of_ble_eq_true rfl | (show _ ≤ 96545; omega)⟩) ?_
                      refine W.widen (k := 422) (n := 96545) (by omega) (by omega) ?_
                      exact W.iret hx hb hr (fun tt htt hWm => ⟨⟨_, rfl, by rw [htt]; exact ⟨fun _ => ⟨adc, Ec, hc0, by rw [hP]; dsimp only; rw [show L.length = k by omega, hP2]; exact ⟨rfl, hN, hwf, hZ.mono (by omega), hW⟩⟩, fun q => absurd hok q⟩⟩, hS.F htt⟩) hS.2.2 dX1_cancel_197
                    · skip
                      refine lv_aload_n hx hb dX1_cancel_135 rfl (lv_at hl 1 rfl) ?_
                      refine lv_iload hx hb dX1_cancel_136 (lv_at hl 0 rfl) ?_
                      have htlk := htlL k (by omega)
                      refine rc_V (W.runV (As := [.int (iI (k))]) (rest := []) ⟨hx, hb, hml, hown, hts⟩ (al_get l D cA sl mc se L.length cap (fun j => ad 8 (L.getD j 0)) (k) (by omega)) (cwV 1 hts (lw_V q565 q566 q567 q45 q568) rfl rfl rfl (by decide +kernel) ⟨Nat.le_of_ble_eq_true rfl, Nat.le_of_ble_eq_true rfl⟩) (preV hK hLs.1 rfl hLs) rfl rfl hl.1 rfl (lv_room (Nat.le_of_ble_eq_true rfl)) dX1_cancel_138 ⟨by first | exact Nat.le_of_ble_eq_true rfl | (show _ ≤ 422; omega), by first | exact Nat.le_of_ble_eq_true rfl | (show _ ≤ 96545; omega)⟩) ?_
                      refine W.eq (g2 := F0 m 141 ls [.ref (adc 8 (L.getD k 0))]) (by rw [h8 k (by omega)]) ?_
                      refine h_cast (ci := 6) (q := (RX7, TX7, 9)) hx hb hown (hts _ q867) hK rfl (isO.of (hW.k8 (L.getD k 0) ‹TL F Nc (L.getD k 0)›)) dX1_cancel_141 ?_
                      refine lv_astore (lv' := [(5, .ref (adc 8 (L.getD k 0))), (4, .int (iI (k))), (3, .ref sl), (0, .ref (adc 0 (0))), (1, .int (iI (t)))]) hx hb dX1_cancel_144 hl (by decide) rfl (fun ls hl => ?_)
                      refine lv_aload_n hx hb dX1_cancel_146 rfl (lv_at hl 3 rfl) ?_
                      refine lv_aload hx hb dX1_cancel_147 (lv_at hl 0 rfl) ?_
                      refine lv_aload_n hx hb dX1_cancel_149 rfl (lv_at hl 3 rfl) ?_
                      refine h_get hx hb hts in_X1 hown hK hW.c0 rfl 4 (by decide) (hts _ q425) rfl (v := .int (iI (F 1))) rfl dX1_cancel_150 ?_
                      refine rc_I (W.runV (As := [.ref (adc 8 (L.getD k 0)), .int (iI (F 1))]) (rest := []) ⟨hx, hb, hml, hown, hts⟩ (cc_X1_leads l D cA (Ax A sl se) sa adc F Nc Zc Ec _ (by omega) hF hN hZ hwf (L.getD k 0) (F 1) _ _ _ _ ‹_› (by omega) rfl rfl rfl rfl (by omega)) (cwV 2 hts (lw_V q662 q664 qs5 q42 q665) rfl rfl rfl (by decide +kernel) ⟨Nat.le_of_ble_eq_true rfl, Nat.le_of_ble_eq_true rfl⟩) (preVX hK hSX hS (fun q h => h.1) hW.c0 rfl (hW.res hsl hLs.1.lt hLs.2.1.lt)) rfl rfl hl.1 rfl (lv_room (Nat.le_of_ble_eq_true rfl)) dX1_cancel_153 ⟨by first | exact Nat.le_of_ble_eq_true rfl | (show _ ≤ 422; omega), by first | exact Nat.le_of_ble_eq_true rfl | (show _ ≤ 96545; omega)⟩) hS (fun q _ h => h.1) (fun q h => h.1) (fun zr H locs hq hS hz hk => ?_)
                      obtain ⟨adn, En, hagn, hzr, hN, hwf, hZ, hWx⟩ := hq
                      have hsl := hWx.apart
                      have hW := hWx.wid (fun q h => h.1)
                      have hLs := hLs.kept (hk _ hLs.1.lt (fun q => q.2.1 rfl)) (hk _ hLs.2.1.lt (fun q => q.2.2 rfl))
                      have hle := ldC_le (T := F 3) (N := Nc) (Z := Zc) (w := L.getD k 0) (na := F 1)
                      have heq := ldC_eqC (T := F 3) (N := Nc) (Z := Zc) (w := L.getD k 0) (na := F 1)
                      generalize hrr : ldC (F 3) Nc Zc (L.getD k 0) (F 1) = r at hzr hle heq hN hwf hZ hW hsl hWx
                      subst hzr
                      have ha0 : adn 0 0 = adc 0 0 := hagn 0 0 (by show 0 < 3; omega) (by decide) (by decide)
                      have ha8 : ∀ j, j < L.length → adn 8 (L.getD j 0) = adc 8 (L.getD j 0) := fun j hj => hagn 8 _ (htlL j hj) (by decide) (by decide)
                      rw [← ha0, ← ha8 k (by omega)] at hl
                      have hc0 := ha0.trans hc0
                      have h8 : ∀ j, j < L.length → adn 8 (L.getD j 0) = ad 8 (L.getD j 0) := fun j hj => (ha8 j hj).trans (h8 j hj)
                      have htlL : ∀ j, j < L.length → TL F r.1 (L.getD j 0) := fun j hj => heq.TL (htlL j hj)
                      have htlk := htlL k (by omega)
                      have hth9 := thW_le hN (L.getD k 0)
                      refine ri_if_eq (tgt := 162) hx hb (by unfold inR; omega) dX1_cancel_156 (by decide) (fun h14 => ?_) (fun h14 => ?_)
                      · skip
                        refine lv_aload hx hb dX1_cancel_162 (lv_at hl 0 rfl) ?_
                        refine va_gets (v := .ref (sa 2)) hx hb hSX.2.2.2.2.2.2.1 hS hown (hts _ q868) (fun _ h => h) dX1_cancel_164 ?_
                        refine h_putN hx hb hts in_X7 tyX7 tyX7_ok nmX7 hown hK (hW.k8 (L.getD k 0) ‹TL F r.1 (L.getD k 0)›) hS (hW.hA 8 (L.getD k 0) ‹TL F r.1 (L.getD k 0)›) rfl 7 (by decide) q604 rfl rfl (v := .ref (sa 2)) rfl rfl rfl (Nat.le_of_ble_eq_true rfl) dX1_cancel_167 (fun H locs hP oq zq hS => ?_)
                        have hP : va_at D CL (adn 8 (L.getD k 0), eW adn sa (up2 (r.1) 25 (L.getD k 0) (2)) (L.getD k 0)) H := by rw [eW, up2_eq]; exact hP
                        have hW := hW.setW25 (v := 2) hF3 hN ‹_› hP oq zq
                        have hN : NB (up2 (r.1) 25 (L.getD k 0) (2)) := hN.up (by show _ ≤ 10; omega)
                        have hwf : WF F (up2 (r.1) 25 (L.getD k 0) (2)) := hwf.st (by omega)
                        have htl167 : TL F (up2 (r.1) 25 (L.getD k 0) (2)) (L.getD k 0) := ‹TL F r.1 (L.getD k 0)›
                        have hLs := hLs.kept (oq _ (fun e => (hsl 8 _ htlk).1 e.symm)) (oq _ (fun e => (hsl 8 _ htlk).2 e.symm))
                        refine lv_aload hx hb dX1_cancel_170 (lv_at hl 0 rfl) ?_
                        refine lv_aload hx hb dX1_cancel_172 (lv_at hl 0 rfl) ?_
                        refine rc_V (W.runV (As := []) (rest := [.ref (adn 8 (L.getD k 0))]) ⟨hx, hb, hml, hown, hts⟩ (cc_X7_sorted l D cA A sa adn F (up2 (r.1) 25 (L.getD k 0) (2)) r.2.1 En _ (by omega) hF hN hZ hwf (L.getD k 0) ‹_›) (cwV 0 hts (lw_V q683 q684 q685 q69 q686) rfl rfl rfl (by decide +kernel) ⟨Nat.le_of_ble_eq_true rfl, Nat.le_of_ble_eq_true rfl⟩) (preVC hK hSX hS (hW.k8 (L.getD k 0) ‹TL F (up2 (r.1) 25 (L.getD k 0) (2)) (L.getD k 0)›) rfl hW) rfl rfl hl.1 rfl (lv_room (Nat.le_of_ble_eq_true rfl)) dX1_cancel_174 ⟨by first | exact Nat.le_of_ble_eq_true rfl | (show _ ≤ 422; omega), by first | exact Nat.le_of_ble_eq_true rfl | (show _ ≤ 96545; omega)⟩) ?_
                        have b15 : thW (up2 (r.1) 25 (L.getD k 0) (2)) (L.getD k 0) ≤ 1619 := thW_le hN _
                        refine lv_aload_n hx hb dX1_cancel_177 rfl (lv_at hl 3 rfl) ?_
                        refine h_get hx hb hts in_X1 hown hK hW.c0 rfl 4 (by decide) (hts _ q425) rfl (v := .int (iI (F 1))) rfl dX1_cancel_178 ?_
                        refine ri_mmax hx hb hml hl.1 hown (hts _ q661) (hts _ q194) (hts _ q55) (hts _ q195) (by unfold inR; omega) (by unfold inR; omega) (Nat.le_of_ble_eq_true rfl) (Nat.le_of_ble_eq_true rfl) (by first | exact Nat.le_of_ble_eq_true rfl | (show _ ≤ 422; omega) | (show _ ≤ 96545; omega)) (by first | exact Nat.le_of_ble_eq_true rfl | (show _ ≤ 422; omega) | (show _ ≤ 96545; omega)) dX1_cancel_181 ?_
                        refine ri_top (b := (max (thW r.1 (L.getD k 0)) (F 1) : Nat)) (by rw [max_eq]; rfl) ?_
                        refine ri_top (b := ((max (thW r.1 (L.getD k 0)) (F 1) : Nat) : Int)) (by omega) ?_
                        refine h_putN hx hb hts in_X7 tyX7 tyX7_ok nmX7 hown hK (hW.k8 (L.getD k 0) ‹TL F (up2 (r.1) 25 (L.getD k 0) (2)) (L.getD k 0)›) hS (hW.hA 8 (L.getD k 0) ‹TL F (up2 (r.1) 25 (L.getD k 0) (2)) (L.getD k 0)›) rfl 8 (by decide) q605 rfl rfl (v := .int (iI ((max (thW r.1 (L.getD k 0)) (F 1) : Nat)))) rfl rfl rfl (Nat.le_of_ble_eq_true rfl) dX1_cancel_184 (fun H locs hP oq zq hS => ?_)
                        have hP : va_at D CL (adn 8 (L.getD k 0), eW adn sa (up2 (up2 (r.1) 25 (L.getD k 0) (2)) 26 (L.getD k 0) (max (thW r.1 (L.getD k 0)) (F 1))) (L.getD k 0)) H := by rw [eW, up2_eq]; exact hP
                        have hW := hW.setW26 (v := max (thW r.1 (L.getD k 0)) (F 1)) hF3 hN ‹_› hP oq zq
                        have hN : NB (up2 (up2 (r.1) 25 (L.getD k 0) (2)) 26 (L.getD k 0) (max (thW r.1 (L.getD k 0)) (F 1))) := hN.up (by show _ ≤ 2000; omega)
                        have hwf : WF F (up2 (up2 (r.1) 25 (L.getD k 0) (2)) 26 (L.getD k 0) (max (thW r.1 (L.getD k 0)) (F 1))) := hwf
                        have htl184 : TL F (up2 (up2 (r.1) 25 (L.getD k 0) (2)) 26 (L.getD k 0) (max (thW r.1 (L.getD k 0)) (F 1))) (L.getD k 0) := ‹TL F (up2 (r.1) 25 (L.getD k 0) (2)) (L.getD k 0)›
                        have hLs := hLs.kept (oq _ (fun e => (hsl 8 _ htlk).1 e.symm)) (oq _ (fun e => (hsl 8 _ htlk).2 e.symm))
                        refine lv_iinc (v := iI ((k + 1 : Nat))) (lv' := [(4, .int (iI ((k + 1 : Nat)))), (5, .ref (adn 8 (L.getD k 0))), (3, .ref sl), (0, .ref (adn 0 (0))), (1, .int (iI (t)))]) hx hb dX1_cancel_187 hl (k := 1) rfl (iI_succ _) (by decide) rfl (fun ls hl => ?_)
                        refine lv_goto (tgt := 126) hx hb dX1_cancel_190 (by decide) ?_
                        have hsl : ∀ k i, Lv F (up2 (up2 (r.1) 25 (L.getD k 0) (2)) 26 (L.getD k 0) (max (thW r.1 (L.getD k 0)) (F 1))) k i → adn k i ≠ sl ∧ adn k i ≠ se := fun k i hl => hsl k i (by rw [Lv_eq (F := F) (N := r.1) rfl rfl rfl ((up2_row (by decide)).trans (up2_row (by decide))) ((up2_row (by decide)).trans (up2_row (by decide))) ((up2_row (by decide)).trans (up2_row (by decide)))] at hl; exact hl)
                        have hP3 : x2It F L Nf Zf (k + 1) = (up2 (up2 (r.1) 25 (L.getD k 0) (2)) 26 (L.getD k 0) (max (thW r.1 (L.getD k 0)) (F 1)), r.2.1) := by
                          show x2Step F (x2It F L Nf Zf k) (L.getD k 0) = _
                          rw [hP2]; unfold x2Step; dsimp only; rw [hrr, if_pos (by omega)]
                        have hZ := hZ.mono (show K + 180 + 3 * k + 3 ≤ K + 180 + 3 * (k + 1) by omega)
                        refine W.widen (k := 62 + 6 * (k + 1)) (n := 24005 + 1209 * (k + 1)) (by omega) (by omega) ?_
                        exact ih126 (k + 1) (adn) (up2 (up2 (r.1) 25 (L.getD k 0) (2)) 26 (L.getD k 0) (max (thW r.1 (L.getD k 0)) (F 1))) (r.2.1) (En) (by omega) hN hwf hZ hP3 hc0 h8 htlL hsl (by omega) _ _ _ ⟨hW, hLs⟩ hS (lv_sub hl [0, 2, 3, 4] rfl)
                      · skip
                        refine lv_goto (tgt := 187) hx hb dX1_cancel_159 (by decide) ?_
                        refine lv_iinc (v := iI ((k + 1 : Nat))) (lv' := [(4, .int (iI ((k + 1 : Nat)))), (5, .ref (adn 8 (L.getD k 0))), (3, .ref sl), (0, .ref (adn 0 (0))), (1, .int (iI (t)))]) hx hb dX1_cancel_187 hl (k := 1) rfl (iI_succ _) (by decide) rfl (fun ls hl => ?_)
                        refine lv_goto (tgt := 126) hx hb dX1_cancel_190 (by decide) ?_
                        have hP3 : x2It F L Nf Zf (k + 1) = (r.1, r.2.1) := by
                          show x2Step F (x2It F L Nf Zf k) (L.getD k 0) = _
                          rw [hP2]; unfold x2Step; dsimp only; rw [hrr, if_neg (by omega)]
                        have hZ := hZ.mono (show K + 180 + 3 * k + 3 ≤ K + 180 + 3 * (k + 1) by omega)
                        refine W.widen (k := 62 + 6 * (k + 1)) (n := 24005 + 1209 * (k + 1)) (by omega) (by omega) ?_
                        exact ih126 (k + 1) (adn) (r.1) (r.2.1) (En) (by omega) hN hwf hZ hP3 hc0 h8 htlL hsl (by omega) _ _ _ ⟨hW, hLs⟩ hS (lv_sub hl [0, 2, 3, 4] rfl)
                exact lp126 _ (0) (ad) (Nf) (Zf) (E) (Nat.zero_le _) hN hwf hZ rfl rfl (fun _ _ => rfl) hLw hsl (Nat.lt_succ_self _) _ _ _ ⟨hW, hLs⟩ hS (lv_sub hl [0, 1, 3, 4] rfl)
              · skip
                refine lv_aload_n hx hb dX1_cancel_75 rfl (lv_at hl 3 rfl) ?_
                refine h_get hx hb hts in_X1 hown hK hW.c0 rfl 2 (by decide) (hts _ q423) rfl (v := .ref (ad 1 (2))) rfl dX1_cancel_76 ?_
                refine lv_iload hx hb dX1_cancel_79 (lv_at hl 0 rfl) ?_
                obtain ⟨mc16, cp16, cq16, cr16, hLi16⟩ := hW.l2
                refine rc_V (W.runV (As := [.int (iI (b))]) (rest := []) ⟨hx, hb, hml, hown, hts⟩ (al_get l D cA (ad 1 (2)) mc16 (ad 2 (2)) (F 4) cp16 (ad 7) (b) (by omega)) (cwV 1 hts (lw_V q565 q566 q567 q45 q568) rfl rfl rfl (by decide +kernel) ⟨Nat.le_of_ble_eq_true rfl, Nat.le_of_ble_eq_true rfl⟩) (preV hK hLi16.1 rfl hLi16) rfl rfl hl.1 rfl (lv_room (Nat.le_of_ble_eq_true rfl)) dX1_cancel_81 ⟨by first | exact Nat.le_of_ble_eq_true rfl | (show _ ≤ 422; omega), by first | exact Nat.le_of_ble_eq_true rfl | (show _ ≤ 96545; omega)⟩) ?_
                refine h_cast (ci := 5) (q := (RX6, TX6, 6)) hx hb hown (hts _ q563) hK rfl (isO.of (hW.k7 (b) (by omega))) dX1_cancel_84 ?_
                refine rc_V (W.runV (As := []) (rest := []) ⟨hx, hb, hml, hown, hts⟩ (cc_X6_trip l D cA A sa ad F Nc Zc E _ (by omega) hF hN hZ hwf b (by omega)) (cwV 0 hts (lw_V q654 q655 q656 q68 q657) rfl rfl rfl (by decide +kernel) ⟨Nat.le_of_ble_eq_true rfl, Nat.le_of_ble_eq_true rfl⟩) (preVC hK hSX hS (hW.k7 (b) (by omega)) rfl hW) rfl rfl hl.1 rfl (lv_room (Nat.le_of_ble_eq_true rfl)) dX1_cancel_87 ⟨by first | exact Nat.le_of_ble_eq_true rfl | (show _ ≤ 422; omega), by first | exact Nat.le_of_ble_eq_true rfl | (show _ ≤ 96545; omega)⟩) ?_
                have b17 : TL F Nc (wayN Nc b) := TL_way hN (by omega)
                have b18 : wayN Nc b < 120 := wayN_lt hN (by omega)
                refine lv_astore (lv' := [(5, .ref (ad 8 (wayN Nc b))), (4, .int (iI (b))), (3, .ref sl), (2, .ref (ad 4 (t))), (0, .ref (ad 0 (0))), (1, .int (iI (t)))]) hx hb dX1_cancel_90 hl (by decide) rfl (fun ls hl => ?_)
                refine lv_aload hx hb dX1_cancel_92 (lv_at hl 0 rfl) ?_
                refine lv_aload_n hx hb dX1_cancel_94 rfl (lv_at hl 3 rfl) ?_
                refine rc_V (W.runV (As := [.ref (ad 4 (t))]) (rest := []) ⟨hx, hb, hml, hown, hts⟩ (cc_X7_uses l D cA A sa ad F Nc Zc E _ (by omega) hF hN hZ hwf (wayN Nc b) t ‹_› (by omega)) (cwV 1 hts (lw_V q807 q808 q809 q69 q810) rfl rfl rfl (by decide +kernel) ⟨Nat.le_of_ble_eq_true rfl, Nat.le_of_ble_eq_true rfl⟩) (preVC hK hSX hS (hW.k8 (wayN Nc b) ‹TL F Nc (wayN Nc b)›) rfl hW) rfl rfl hl.1 rfl (lv_room (Nat.le_of_ble_eq_true rfl)) dX1_cancel_95 ⟨by first | exact Nat.le_of_ble_eq_true rfl | (show _ ≤ 422; omega), by first | exact Nat.le_of_ble_eq_true rfl | (show _ ≤ 96545; omega)⟩) ?_
                by_cases h19 : usB Nc (wayN Nc b) t = true
                · refine ri_top (b := 1) (if_pos h19) ?_
                  refine ri_if_ne (tgt := 104) hx hb (by unfold inR; omega) dX1_cancel_98 (by decide) (fun h20 => ?_) (fun h20 => ?_)
                  · skip
                    refine lv_aload hx hb dX1_cancel_104 (lv_at hl 0 rfl) ?_
                    refine lv_aload_n hx hb dX1_cancel_106 rfl (lv_at hl 3 rfl) ?_
                    have hfo := foC_spec (N := Nc) (w := wayN Nc b) (t := t) ‹_›
                    have hfo1 := hfo.1
                    refine rc_N (W.runV (As := [.ref (ad 4 (t))]) (rest := []) ⟨hx, hb, hml, hown, hts⟩ (cc_X7_leaves l D cA (Ax A sl se) sa ad F Nc Zc E _ (by omega) hF hN hZ hwf (wayN Nc b) t (foC Nc (wayN Nc b) t) ‹_› (by omega) hfo.1 hfo.2.1 hfo.2.2 (by omega)) (cwV 1 hts (lw_V q850 q851 q852 q69 q853) rfl rfl rfl (by decide +kernel) ⟨Nat.le_of_ble_eq_true rfl, Nat.le_of_ble_eq_true rfl⟩) (preVX hK hSX hS (fun q h => h.1) (hW.k8 (wayN Nc b) ‹TL F Nc (wayN Nc b)›) rfl (hW.res hsl hLs.1.lt hLs.2.1.lt)) rfl rfl hl.1 rfl (lv_room (Nat.le_of_ble_eq_true rfl)) dX1_cancel_107 ⟨by first | exact Nat.le_of_ble_eq_true rfl | (show _ ≤ 422; omega), by first | exact Nat.le_of_ble_eq_true rfl | (show _ ≤ 96545; omega)⟩) hS (fun q _ h => h.1) (fun q h => h.1) (fun H locs hWx hS hz hk => ?_)
                    have hW := hWx.wid (fun q h => h.1)
                    have hLs := hLs.kept (hk _ hLs.1.lt (fun q => q.2.1 rfl)) (hk _ hLs.2.1.lt (fun q => q.2.2 rfl))
                    have hm3 : Nc 24 (wayN Nc b) ≤ 3 := hN 24 _
                    have hZ := (ldZ_B (N := Nc) (w := wayN Nc b) (v := -1) (by decide) (by decide) (a := foC Nc (wayN Nc b) t) (Nc 24 (wayN Nc b) - foC Nc (wayN Nc b) t) Zc hZ).mono (show _ ≤ K + 3 * (b + 1) by omega)
                    have hsl := fun k i (hl : Lv F (up2 Nc 24 (wayN Nc b) (foC Nc (wayN Nc b) t)) k i) => hsl k i (Lv_pop (by omega) k i hl)
                    have hLw : ∀ j, j < L.length → TL F (up2 Nc 24 (wayN Nc b) (foC Nc (wayN Nc b) t)) (L.getD j 0) := hLw
                    have hN : NB (up2 Nc 24 (wayN Nc b) (foC Nc (wayN Nc b) t)) := hN.up (by show _ ≤ 3; omega)
                    have hwf : WF F (up2 Nc 24 (wayN Nc b) (foC Nc (wayN Nc b) t)) := hwf.pop (by omega)
                    have htl9 : TL F (up2 Nc 24 (wayN Nc b) (foC Nc (wayN Nc b) t)) (wayN Nc b) := ‹TL F Nc (wayN Nc b)›
                    refine lv_aload_n hx hb dX1_cancel_110 rfl (lv_at hl 2 rfl) ?_
                    refine lv_aload hx hb dX1_cancel_111 (lv_at hl 0 rfl) ?_
                    have hlt9 := hW.lt hF3 hN
                    have hse9 := hLs.2.1.lt
                    refine rc_I (W.runV (As := [.ref (ad 8 (wayN Nc b))]) (rest := []) ⟨hx, hb, hml, hown, hts⟩ (al_add l D cA sl mc se H.size L.length cap (ad 8 (wayN Nc b)) 6 (fun j => ad 8 (L.getD j 0)) hc1 (by omega) (by decide) (hsl 8 _ ‹_›).1) (cwV 1 hts (lw_V q468 q469 q470 q45 q471) rfl rfl rfl (by decide +kernel) ⟨Nat.le_of_ble_eq_true rfl, Nat.le_of_ble_eq_true rfl⟩) (preV hK hLs.1 rfl ⟨hLs, rfl, (fun j hj => ⟨6, by decide, isO.of (hW.k8 (L.getD j 0) (hLw j hj))⟩), (isO.of (hW.k8 (wayN Nc b) ‹TL F (up2 Nc 24 (wayN Nc b) (foC Nc (wayN Nc b) t)) (wayN Nc b)›)), (hsl 8 _ ‹_›).2, (fun j hj => (hsl 8 _ (hLw j hj)).1)⟩) rfl rfl hl.1 rfl (lv_room (Nat.le_of_ble_eq_true rfl)) dX1_cancel_113 ⟨by first | exact Nat.le_of_ble_eq_true rfl | (show _ ≤ 422; omega), by first | exact Nat.le_of_ble_eq_true rfl | (show _ ≤ 96545; omega)⟩) hS (fun q _ h => by rcases h with h | h | h; rw [h]; exact hAsl; rw [h]; exact hAse; exact hW.2.2.2 q h) (fun q  h => by rcases h with h | h | h; rw [h]; exact hAsl; rw [h]; exact hAse; exact hW.2.2.2 q h) (fun zr H locs hq hS hz hk => ?_)
                    obtain ⟨rfl, ez, hLz, hor⟩ := hq
                    have hcap := nxC_le (cap := cap) (sz := L.length) hc1 hc2 (by omega)
                    have hgr9 := hW.2.2.2
                    have hW := hW.keptL hF3 hN hz (fun k i hl => hk _ (hlt9 k i hl) (by have h1 := hsl k i hl; have h2 := hlt9 k i hl; omega))
                    have hAse : A ez := by rcases hor with h | h; rw [h]; exact hAse; exact hgr9 _ h
                    have hsl : ∀ k i, Lv F (up2 Nc 24 (wayN Nc b) (foC Nc (wayN Nc b) t)) k i → ad k i ≠ sl ∧ ad k i ≠ ez := fun k i hl => ⟨(hsl k i hl).1, by have h1 := hsl k i hl; have h2 := hlt9 k i hl; omega⟩
                    have hLs : LiS D cA sl (mc + 1) ez (L ++ [wayN Nc b]).length (nxC cap L.length) (fun j => ad 8 ((L ++ [wayN Nc b]).getD j 0)) H := by rw [len_new]; exact hLz.to (fun j hj => by by_cases e : j = L.length; rw [e, va_up_self, getD_new]; rw [va_up_ne _ _ e, getD_in _ _ _ (by omega)])
                    have hLw : ∀ j, j < (L ++ [wayN Nc b]).length → TL F (up2 Nc 24 (wayN Nc b) (foC Nc (wayN Nc b) t)) ((L ++ [wayN Nc b]).getD j 0) := fun j hj => by rw [len_new] at hj; by_cases e : j = L.length; rw [e, getD_new]; assumption; rw [getD_in _ _ _ (by omega)]; exact hLw j (by omega)
                    refine lv_pop hx hb dX1_cancel_116 rfl ?_
                    refine lv_iinc (v := iI ((b + 1 : Nat))) (lv' := [(4, .int (iI ((b + 1 : Nat)))), (5, .ref (ad 8 (wayN Nc b))), (3, .ref sl), (2, .ref (ad 4 (t))), (0, .ref (ad 0 (0))), (1, .int (iI (t)))]) hx hb dX1_cancel_117 hl (k := 1) rfl (iI_succ _) (by decide) rfl (fun ls hl => ?_)
                    refine lv_goto (tgt := 63) hx hb dX1_cancel_120 (by decide) ?_
                    have hP2 : x1It t (up2 N 13 t 1) Z (b + 1) = (up2 Nc 24 (wayN Nc b) (foC Nc (wayN Nc b) t), ldZ Nc (wayN Nc b) (-1) (foC Nc (wayN Nc b) t) (Nc 24 (wayN Nc b) - foC Nc (wayN Nc b) t) Zc, L ++ [wayN Nc b]) := by
                      show x1Step t (x1It t (up2 N 13 t 1) Z b) b = _
                      rw [hP]; unfold x1Step; dsimp only; exact if_pos ‹_›
                    have heC : eqC (up2 N 13 t 1) (up2 Nc 24 (wayN Nc b) (foC Nc (wayN Nc b) t)) := fun k hk => (up2_row (by omega)).trans (heC k hk)
                    refine W.widen (k := 2 + (b + 1)) (n := 5 + 400 * (b + 1)) (by omega) (by omega) ?_
                    exact ih63 (b + 1) (up2 Nc 24 (wayN Nc b) (foC Nc (wayN Nc b) t)) (ldZ Nc (wayN Nc b) (-1) (foC Nc (wayN Nc b) t) (Nc 24 (wayN Nc b) - foC Nc (wayN Nc b) t) Zc) (L ++ [wayN Nc b]) (ez) (nxC cap L.length) (mc + 1) (by omega) hN hwf hZ hP2 heC (by rw [len_new]; omega) hLw hsl hAse hcap.1 hcap.2 (by omega) _ _ _ ⟨hW, hLs⟩ hS (lv_sub hl [0, 2, 3, 4, 5] rfl)
                  · skip
                    exfalso; omega
                · refine ri_top (b := 0) (if_neg h19) ?_
                  refine ri_if_ne (tgt := 104) hx hb (by unfold inR; omega) dX1_cancel_98 (by decide) (fun h21 => ?_) (fun h21 => ?_)
                  · skip
                    exfalso; omega
                  · skip
                    refine lv_goto (tgt := 117) hx hb dX1_cancel_101 (by decide) ?_
                    refine lv_iinc (v := iI ((b + 1 : Nat))) (lv' := [(4, .int (iI ((b + 1 : Nat)))), (5, .ref (ad 8 (wayN Nc b))), (3, .ref sl), (2, .ref (ad 4 (t))), (0, .ref (ad 0 (0))), (1, .int (iI (t)))]) hx hb dX1_cancel_117 hl (k := 1) rfl (iI_succ _) (by decide) rfl (fun ls hl => ?_)
                    refine lv_goto (tgt := 63) hx hb dX1_cancel_120 (by decide) ?_
                    have hP2 : x1It t (up2 N 13 t 1) Z (b + 1) = (Nc, Zc, L) := by
                      show x1Step t (x1It t (up2 N 13 t 1) Z b) b = _
                      rw [hP]; unfold x1Step; dsimp only; exact if_neg ‹_›
                    have hZ := hZ.mono (show K + 3 * b ≤ K + 3 * (b + 1) by omega)
                    refine W.widen (k := 2 + (b + 1)) (n := 5 + 400 * (b + 1)) (by omega) (by omega) ?_
                    exact ih63 (b + 1) (Nc) (Zc) (L) (se) (cap) (mc) (by omega) hN hwf hZ hP2 heC (by omega) hLw hsl hAse hc1 hc2 (by omega) _ _ _ ⟨hW, hLs⟩ hS (lv_sub hl [0, 2, 3, 4, 5] rfl)
          have hLs : LiS D cA sl 0 se0 ([] : List Nat).length 2 (fun j => ad 8 (([] : List Nat).getD j 0)) H := hLs.to (fun j hj => absurd hj (Nat.not_lt_zero _))
          refine W.widen (k := 2 + 0) (n := 5 + 400 * 0) (Nat.le_of_ble_eq_true rfl) (Nat.le_of_ble_eq_true rfl) ?_
          exact lp63 _ (0) (up2 (N) 13 (t) (1)) (Z) ([]) (se0) (2) (0) (Nat.zero_le _) hN hwf hZ rfl (eqC.rf _) (Nat.zero_le _) (fun j hj => absurd hj (Nat.not_lt_zero _)) hsl hAse (by decide) (by decide) (Nat.lt_succ_self _) _ _ _ ⟨hW, hLs⟩ hS (lv_sub hl [0, 1, 2, 3, 4] rfl)
        · skip
          refine lv_iconst (v := iI (-1)) hx hb dX1_cancel_44 rfl ?_
          refine W.widen (k := 422) (n := 96545) (Nat.zero_le _) (Nat.zero_le _) ?_
          exact W.iret hx hb hr (fun tt htt hWm => ⟨⟨_, rfl, by rw [htt]; exact ⟨fun q => absurd q (by omega), fun _ => ⟨rfl, hW⟩⟩⟩, hS.F htt⟩) hS.2.2 dX1_cancel_45
