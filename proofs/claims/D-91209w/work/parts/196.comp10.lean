set_option maxRecDepth 100000
set_option maxHeartbeats 4000000 in
set_option maxRecDepth 100000 in
theorem cc_X1_stop (l : Launch) (D : va_G) (cA : Nat → ClassId) (A : Nat → Prop) (sa : Nat → Nat) (ad : Nat → Nat → Nat) (F : Nat → Nat) (N : Nat → Nat → Nat) (Z : Nat → Int) (E : Nat → Nat → Int) (K : Nat) (hKb : K ≤ 1000000) (hF : FB F) (hN : NB N) (hZ : ZB K Z) (hwf : WF F N) (t sv mi : Nat) (ht : t < F 3) (h8n : N 8 t ≠ 10) (hsv : sv < F 2) (hmi : mi ≤ 1439) (hpl : ¬ (N 23 t ≠ 0 ∧ plB F N t = true)) (hls : ¬ (0 < N 8 t ∧ (mi ≤ N 10 (10 * t + (N 8 t - 1)) ∨ N 9 (10 * t + (N 8 t - 1)) = sv))) : Met l yX1_stop (ws_ yX1_stop cX1_stop 6 (some .int)) ({ frames := 7, cells := 2, slots := 402, locals := 211 }) (PC D cA A sa ad F N Z E [.ref (ad 0 (0)), .int (iI (t)), .int (iI (sv)), .int (iI (mi))]) (Qi (fun z H' => z = (N 8 t : Nat) ∧ ∃ ad', ad' 0 0 = ad 0 0 ∧ CW D cA A sa ad' F (stopN N t sv mi) Z E H') A) 2 402 (A) := by
  refine Met.ofW (cc := cX1_stop) (maxL := 6) (ret := (some .int)) (by decide) rfl ?_
  intro p e s m args below meth c s₁ B hml hv
  obtain ⟨rfl, hK, hW⟩ := hv
  have hx := B.exec
  have hb := B.bytes
  have hr := B.returns
  have hts := atoms_spec (ws := ws_ yX1_stop cX1_stop 6 (some .int)) B.pre
  have hts : ∀ w ∈ lw_all, w.before _ s = true := fun w h => hts w (List.mem_cons_of_mem _ h)
  have hown : s.vm.findClass RX1 = some m.cls := findClass_of_methodNamed B.named
  have hlocks := B.notSynchronized
  have hl := lv_entry ([.ref (ad 0 (0)), .int (iI (t)), .int (iI (sv)), .int (iI (mi))]) (n := 6) (Nat.le_of_ble_eq_true rfl)
  rw [lg_entry_eq]
  generalize (lg_sl ([.ref (ad 0 (0)), .int (iI (t)), .int (iI (sv)), .int (iI (mi))]) ++ List.replicate (6 - (lg_sl ([.ref (ad 0 (0)), .int (iI (t)), .int (iI (sv)), .int (iI (mi))])).length) Slot.unset).toArray = ls at hl ⊢
  have hl : lv_has ls 6 [(0, .ref (ad 0 (0))), (1, .int (iI (t))), (2, .int (iI (sv))), (3, .int (iI (mi)))] := hl
  obtain ⟨hSX, hW⟩ := hW
  have hS : va_S A s.heap s.heap [] := va_S.rf
  have hF2 : F 2 ≤ 10 := hF 2
  have hF3 : F 3 ≤ 16 := hF 3
  have hF4 : F 4 ≤ 60 := hF 4
  have hF5 : F 5 ≤ 40 := hF 5
  have hF1 : F 1 ≤ 1439 := hF 1
  have hm8 : N 8 t ≤ 10 := hN 8 t
  refine lv_aload_n hx hb dX1_stop_0 rfl (lv_at hl 0 rfl) ?_
  refine lv_iload_n hx hb dX1_stop_1 rfl (lv_at hl 1 rfl) ?_
  refine rc_V (W.runV (As := [.int (iI (t))]) (rest := []) ⟨hx, hb, hml, hown, hts⟩ (cc_X1_trainAt l D cA A sa ad F N Z E K hKb hF hN hZ hwf t (by omega)) (cwV 1 hts (lw_V q775 q777 qs10 q42 q778) rfl rfl rfl (by decide +kernel) ⟨Nat.le_of_ble_eq_true rfl, Nat.le_of_ble_eq_true rfl⟩) (preVC hK hSX hS hW.c0 rfl hW) rfl rfl hl.1 rfl (lv_room (Nat.le_of_ble_eq_true rfl)) dX1_stop_2 ⟨Nat.le_of_ble_eq_true rfl, Nat.le_of_ble_eq_true rfl⟩) ?_
  refine lv_astore (lv' := [(4, .ref (ad 4 (t))), (0, .ref (ad 0 (0))), (1, .int (iI (t))), (2, .int (iI (sv))), (3, .int (iI (mi)))]) hx hb dX1_stop_5 hl (by decide) rfl (fun ls hl => ?_)
  refine lv_aload hx hb dX1_stop_7 (lv_at hl 0 rfl) ?_
  refine h_getN hx hb hts in_X4 hown hK (hW.k4 (t) (by omega)) rfl 2 (by decide) q533 rfl (v := .ref (ad 1 (10 + t))) rfl dX1_stop_9 ?_
  have b2 : N 8 (t) ≤ 10 := hN 8 _
  obtain ⟨mc1, cp1, cq1, cr1, hLi1⟩ := (hW.lp (t) (by omega))
  refine rc_V (W.runV (As := []) (rest := []) ⟨hx, hb, hml, hown, hts⟩ (al_size l D cA (ad 1 (10 + t)) mc1 (ad 2 (10 + t)) (N 8 (t))) (cwV 0 hts (lw_V q448 q449 q450 q45 q451) rfl rfl rfl (by decide +kernel) ⟨Nat.le_of_ble_eq_true rfl, Nat.le_of_ble_eq_true rfl⟩) (preV hK hLi1.1 rfl hLi1.1) rfl rfl hl.1 rfl (lv_room (Nat.le_of_ble_eq_true rfl)) dX1_stop_12 ⟨Nat.le_of_ble_eq_true rfl, Nat.le_of_ble_eq_true rfl⟩) ?_
  refine lv_bipush (v := iI (10)) hx hb dX1_stop_15 (by decide) ?_
  refine ri_icmp_eq (tgt := 52) hx hb (by unfold inR; omega) (by unfold inR; omega) dX1_stop_17 (by decide) (fun h3 => ?_) (fun h3 => ?_)
  · skip
    exfalso; omega
  · skip
    refine lv_aload_n hx hb dX1_stop_20 rfl (lv_at hl 1 rfl) ?_
    refine lv_iload_n hx hb dX1_stop_21 rfl (lv_at hl 3 rfl) ?_
    refine rc_V (W.runV (As := [.int (iI (sv))]) (rest := []) ⟨hx, hb, hml, hown, hts⟩ (cc_X1_isStation l D cA A sa ad F N Z E K hKb hF hN hZ hwf sv (by unfold inR; omega)) (cwV 1 hts (lw_V q556 q558 qs4 q42 q559) rfl rfl rfl (by decide +kernel) ⟨Nat.le_of_ble_eq_true rfl, Nat.le_of_ble_eq_true rfl⟩) (preVC hK hSX hS hW.c0 rfl hW) rfl rfl hl.1 rfl (lv_room (Nat.le_of_ble_eq_true rfl)) dX1_stop_22 ⟨Nat.le_of_ble_eq_true rfl, Nat.le_of_ble_eq_true rfl⟩) ?_
    refine ri_top (b := 1) (if_pos (show 0 ≤ (sv : Int) ∧ (sv : Int) < (F 2 : Nat) from by omega)) ?_
    refine ri_if_eq (tgt := 52) hx hb (by unfold inR; omega) dX1_stop_25 (by decide) (fun h5 => ?_) (fun h5 => ?_)
    · skip
      exfalso; omega
    · skip
      refine lv_iload_n hx hb dX1_stop_28 rfl (lv_at hl 4 rfl) ?_
      refine rc_V (W.runS (As := [.int (iI (mi))]) (rest := []) ⟨hx, hb, hml, hown, hts⟩ (cc_X1_isMinute l D cA mi (by unfold inR; omega)) (va_cwS 1 hts (lw_S q560 q561 q42 q562) rfl rfl rfl (by decide +kernel) ⟨Nat.le_of_ble_eq_true rfl, Nat.le_of_ble_eq_true rfl⟩) (preS hK (B := fun _ => True) trivial) rfl rfl hl.1 rfl (lv_room (Nat.le_of_ble_eq_true rfl)) dX1_stop_29 ⟨Nat.le_of_ble_eq_true rfl, Nat.le_of_ble_eq_true rfl⟩) ?_
      refine ri_top (b := 1) (if_pos (show 0 ≤ (mi : Int) ∧ (mi : Int) ≤ 1439 from by omega)) ?_
      refine ri_if_eq (tgt := 52) hx hb (by unfold inR; omega) dX1_stop_32 (by decide) (fun h7 => ?_) (fun h7 => ?_)
      · skip
        exfalso; omega
      · skip
        refine lv_aload hx hb dX1_stop_35 (lv_at hl 0 rfl) ?_
        have b8 : N 23 (t) ≤ 1 := hN 23 _
        refine h_getN hx hb hts in_X4 hown hK (hW.k4 (t) (by omega)) rfl 5 (by decide) q538 rfl (v := .int (iI (N 23 (t)))) rfl dX1_stop_37 ?_
        refine ri_if_eq (tgt := 54) hx hb (by unfold inR; omega) dX1_stop_40 (by decide) (fun h9 => ?_) (fun h9 => ?_)
        · skip
          refine lv_aload hx hb dX1_stop_54 (lv_at hl 0 rfl) ?_
          refine h_getN hx hb hts in_X4 hown hK (hW.k4 (t) (by omega)) rfl 2 (by decide) q533 rfl (v := .ref (ad 1 (10 + t))) rfl dX1_stop_56 ?_
          obtain ⟨mc10, cp10, cq10, cr10, hLi10⟩ := (hW.lp (t) (by omega))
          refine rc_V (W.runV (As := []) (rest := []) ⟨hx, hb, hml, hown, hts⟩ (al_isEmpty l D cA (ad 1 (10 + t)) mc10 (ad 2 (10 + t)) (N 8 (t)) (by omega)) (cwV 0 hts (lw_V q811 q671 q672 q45 q673) rfl rfl rfl (by decide +kernel) ⟨Nat.le_of_ble_eq_true rfl, Nat.le_of_ble_eq_true rfl⟩) (preV hK hLi10.1 rfl hLi10.1) rfl rfl hl.1 rfl (lv_room (Nat.le_of_ble_eq_true rfl)) dX1_stop_59 ⟨Nat.le_of_ble_eq_true rfl, Nat.le_of_ble_eq_true rfl⟩) ?_
          by_cases h11 : N 8 (t) = 0
          · refine ri_top (b := 1) (if_pos h11) ?_
            refine ri_if_eq (tgt := 69) hx hb (by unfold inR; omega) dX1_stop_62 (by decide) (fun h12 => ?_) (fun h12 => ?_)
            · skip
              exfalso; omega
            · skip
              refine lv_null hx hb dX1_stop_65 ?_
              refine lv_goto (tgt := 90) hx hb dX1_stop_66 (by decide) ?_
              refine lv_astoreN (lv' := [(5, .null), (4, .ref (ad 4 (t))), (0, .ref (ad 0 (0))), (1, .int (iI (t))), (2, .int (iI (sv))), (3, .int (iI (mi)))]) hx hb dX1_stop_90 hl (by decide) rfl (fun ls hl => ?_)
              refine lv_aloadN hx hb dX1_stop_92 (lv_at hl 0 rfl) ?_
              refine lv_ifnullN (tgt := 120) hx hb dX1_stop_94 (by decide) ?_
              refine lv_aload hx hb dX1_stop_120 (lv_at hl 1 rfl) ?_
              refine h_getN hx hb hts in_X4 hown hK (hW.k4 (t) (by omega)) rfl 2 (by decide) q533 rfl (v := .ref (ad 1 (10 + t))) rfl dX1_stop_122 ?_
              have hlt125 := hW.lt hF3 hN
              have hgr125 := hW.2.2.2
              refine h_new hx hb hts in_X5 tyX5 tyX5_ok hown (hts _ q699) (hts _ q812) (hts _ q67) hK hS (ci := 4) rfl (fs := [.null, .int (iI (0))]) (fun j hj => by match j, hj with | 0, _ => rfl | 1, _ => rfl) (Nat.le_of_ble_eq_true rfl) (Nat.le_of_ble_eq_true rfl) dX1_stop_125 (fun z H hq125 hXz o1 z1 hS => ?_)
              have hAz : A z := hgr125 _ (by omega)
              have hW := hW.keptL hF3 hN (by omega) (fun k i hl => o1 _ (hlt125 k i hl))
              refine lv_dup hx hb dX1_stop_128 rfl ?_
              refine lv_aload_n hx hb dX1_stop_129 rfl (lv_at hl 2 rfl) ?_
              refine h_get hx hb hts in_X1 hown hK hW.c0 rfl 0 (by decide) (hts _ q421) rfl (v := .ref (ad 1 (0))) rfl dX1_stop_130 ?_
              refine lv_iload_n hx hb dX1_stop_133 rfl (lv_at hl 4 rfl) ?_
              obtain ⟨mc13, cp13, cq13, cr13, hLi13⟩ := hW.l0
              refine rc_V (W.runV (As := [.int (iI (sv))]) (rest := [.ref z, .ref z, .ref (ad 1 (10 + t))]) ⟨hx, hb, hml, hown, hts⟩ (al_get l D cA (ad 1 (0)) mc13 (ad 2 (0)) (F 2) cp13 (ad 3) (sv) (by omega)) (cwV 1 hts (lw_V q565 q566 q567 q45 q568) rfl rfl rfl (by decide +kernel) ⟨Nat.le_of_ble_eq_true rfl, Nat.le_of_ble_eq_true rfl⟩) (preV hK hLi13.1 rfl hLi13) rfl rfl hl.1 rfl (lv_room (Nat.le_of_ble_eq_true rfl)) dX1_stop_134 ⟨Nat.le_of_ble_eq_true rfl, Nat.le_of_ble_eq_true rfl⟩) ?_
              refine h_cast (ci := 2) (q := (RX3, TX3, 2)) hx hb hown (hts _ q452) hK rfl (isO.of (hW.k3 (sv) (by omega))) dX1_stop_137 ?_
              refine lv_iload_n hx hb dX1_stop_140 rfl (lv_at hl 5 rfl) ?_
              refine rc_N (W.runI (As := [.ref (ad 3 (sv)), .int (iI (mi))]) (rest := [.ref z, .ref (ad 1 (10 + t))]) ⟨hx, hb, hml, hown, hts⟩ (cc_X5_init l D cA z ((ad 3 (sv))) (mi)) (cwI 2 hts (lw_meth q815) rfl rfl rfl (hts _ q67) (hts _ q813) (hts _ q814) rfl (by decide +kernel) ⟨Nat.le_of_ble_eq_true rfl, Nat.le_of_ble_eq_true rfl⟩) (preS hK hXz) rfl rfl hl.1 rfl (lv_room (Nat.le_of_ble_eq_true rfl)) dX1_stop_141 ⟨Nat.le_of_ble_eq_true rfl, Nat.le_of_ble_eq_true rfl⟩) hS (fun q _ h => by rw [h]; exact hAz) (fun q h => by rw [h]; exact hAz) (fun H locs hXz hS hz hk => ?_)
              have hW := hW.keptL hF3 hN hz (fun k i hl => hk _ (by have := hlt125 k i hl; omega) (by have := hlt125 k i hl; omega))
              obtain ⟨mc14, cp14, cq14, cr14, hLi14⟩ := (hW.lp (t) (by omega))
              refine rc_I (W.runV (As := [.ref z]) (rest := []) ⟨hx, hb, hml, hown, hts⟩ (al_add l D cA (ad 1 (10 + t)) mc14 (ad 2 (10 + t)) H.size (N 8 (t)) cp14 z 4 (fun j => ad 6 (10 * t + j)) cq14 (by omega) (by decide) (by have := hlt125 1 _ (lv_lp (t := t) (by omega) (by omega)); omega)) (cwV 1 hts (lw_V q468 q469 q470 q45 q471) rfl rfl rfl (by decide +kernel) ⟨Nat.le_of_ble_eq_true rfl, Nat.le_of_ble_eq_true rfl⟩) (preV hK hLi14.1 rfl ⟨hLi14, rfl, (fun j hj => ⟨4, by decide, isO.of (hW.k6 t j ht hj)⟩), (isO.of hXz), (by have := hlt125 2 _ (lv_ep (t := t) (by omega) (by omega)); omega), (fun j hj => hW.ne (lv_6 ht hj hm8) (lv_lp (t := t) (by omega) (by omega)) (Or.inl (by decide)))⟩) rfl rfl hl.1 rfl (lv_room (Nat.le_of_ble_eq_true rfl)) dX1_stop_144 ⟨Nat.le_of_ble_eq_true rfl, Nat.le_of_ble_eq_true rfl⟩) hS (fun q _ h => by rcases h with h | h | h; rw [h]; exact hW.hA 1 _ (lv_lp (by omega) (by omega)); rw [h]; exact hW.hA 2 _ (lv_ep (by omega) (by omega)); exact hW.2.2.2 q h) (fun q  h => by rcases h with h | h | h; rw [h]; exact hW.hA 1 _ (lv_lp (by omega) (by omega)); rw [h]; exact hW.hA 2 _ (lv_ep (by omega) (by omega)); exact hW.2.2.2 q h) (fun zr H locs hq hS hz hk => ?_)
              obtain ⟨rfl, ez, hLz, hor⟩ := hq
              have hcap := nxC_le (cap := cp14) (sz := N 8 (t)) cq14 cr14 (by omega)
              have hzl := hXz.lt
              have hl1 := hlt125 1 _ (lv_lp (t := t) (by omega) (by omega))
              have hl2 := hlt125 2 _ (lv_ep (t := t) (by omega) (by omega))
              have hXz := hXz.kept (hk _ hzl (by omega))
              have e1 : (up2 (up2 ad 6 (10 * t + N 8 t) z) 2 (10 + t) ez) 2 (10 + t) = ez := up2_eq _ _ _ _
              have e2 : (up2 (up2 ad 6 (10 * t + N 8 t) z) 2 (10 + t) ez) 6 (10 * t + N 8 t) = z := by rw [up2_ne (Or.inl (by decide)), up2_eq]
              have hez : ez ≠ z := by omega
              have hW := hW.addP (ad' := up2 (up2 ad 6 (10 * t + N 8 t) z) 2 (10 + t) ez) (n0 := z) (t := t) (s := sv) (mi := mi) hF3 hN hwf ht (by omega) hsv ⟨_, _, hcap.1, hcap.2, by rw [e1, e2]; exact hLz⟩ (by rw [e2]; exact hXz) (fun k i hl => by have := hlt125 k i hl; omega) (fun q h => hgr125 q (by omega)) (fun k i hn => by rcases hn with ⟨rfl, rfl⟩ | ⟨rfl, rfl⟩; rcases hor with h | h; exact Or.inr ⟨rfl, rfl, by rw [e1]; exact h⟩; exact Or.inl (by rw [e1]; omega); exact Or.inl (by rw [e2]; exact Nat.le_refl _)) (fun k i k' i' h1 h2 e => by rcases h1 with ⟨rfl, rfl⟩ | ⟨rfl, rfl⟩ <;> rcases h2 with ⟨rfl, rfl⟩ | ⟨rfl, rfl⟩ <;> simp only [e1, e2] at e <;> first | exact ⟨rfl, rfl⟩ | (exfalso; omega)) (fun k i hn => by rw [up2_ne (by omega), up2_ne (by omega)]) (fun q h1 h2 => hk q (by omega) (by omega)) (by omega)
              have hN : NB (stopN N t sv mi) := ((hN.up (by show _ ≤ 9; omega)).up (by show _ ≤ 1439; omega)).up (by show _ ≤ 10; omega)
              refine lv_pop hx hb dX1_stop_147 rfl ?_
              refine lv_aload hx hb dX1_stop_148 (lv_at hl 1 rfl) ?_
              refine h_getN hx hb hts in_X4 hown hK (hW.k4 (t) (by omega)) rfl 2 (by decide) q533 rfl (v := .ref (up2 (up2 ad 6 (10 * t + N 8 t) z) 2 (10 + t) ez 1 (10 + t))) rfl dX1_stop_150 ?_
              have b16 : (stopN N t sv mi) 8 (t) ≤ 10 := hN 8 _
              obtain ⟨mc15, cp15, cq15, cr15, hLi15⟩ := (hW.lp (t) (by omega))
              refine rc_V (W.runV (As := []) (rest := []) ⟨hx, hb, hml, hown, hts⟩ (al_size l D cA (up2 (up2 ad 6 (10 * t + N 8 t) z) 2 (10 + t) ez 1 (10 + t)) mc15 (up2 (up2 ad 6 (10 * t + N 8 t) z) 2 (10 + t) ez 2 (10 + t)) ((stopN N t sv mi) 8 (t))) (cwV 0 hts (lw_V q448 q449 q450 q45 q451) rfl rfl rfl (by decide +kernel) ⟨Nat.le_of_ble_eq_true rfl, Nat.le_of_ble_eq_true rfl⟩) (preV hK hLi15.1 rfl hLi15.1) rfl rfl hl.1 rfl (lv_room (Nat.le_of_ble_eq_true rfl)) dX1_stop_153 ⟨Nat.le_of_ble_eq_true rfl, Nat.le_of_ble_eq_true rfl⟩) ?_
              refine ri_top (b := (N 8 t + 1 : Nat)) (by show ((stopN N t sv mi 8 t : Nat) : Int) = _; unfold stopN; rw [up2_eq]) ?_
              refine lv_iconst (v := iI (1)) hx hb dX1_stop_156 rfl ?_
              refine ri_isub hx hb dX1_stop_157 ?_
              refine ri_top (b := (N 8 t : Nat)) (by omega) ?_
              exact W.iret hx hb hr (fun tt htt hWm => ⟨⟨_, rfl, by rw [htt]; exact ⟨rfl, up2 (up2 ad 6 (10 * t + N 8 t) z) 2 (10 + t) ez, rfl, hW⟩⟩, hS.F htt⟩) hS.2.2 dX1_stop_158
          · refine ri_top (b := 0) (if_neg h11) ?_
            refine ri_if_eq (tgt := 69) hx hb (by unfold inR; omega) dX1_stop_62 (by decide) (fun h17 => ?_) (fun h17 => ?_)
            · skip
              refine lv_aload hx hb dX1_stop_69 (lv_at hl 0 rfl) ?_
              refine h_getN hx hb hts in_X4 hown hK (hW.k4 (t) (by omega)) rfl 2 (by decide) q533 rfl (v := .ref (ad 1 (10 + t))) rfl dX1_stop_71 ?_
              refine lv_aload hx hb dX1_stop_74 (lv_at hl 0 rfl) ?_
              refine h_getN hx hb hts in_X4 hown hK (hW.k4 (t) (by omega)) rfl 2 (by decide) q533 rfl (v := .ref (ad 1 (10 + t))) rfl dX1_stop_76 ?_
              obtain ⟨mc18, cp18, cq18, cr18, hLi18⟩ := (hW.lp (t) (by omega))
              refine rc_V (W.runV (As := []) (rest := [.ref (ad 1 (10 + t))]) ⟨hx, hb, hml, hown, hts⟩ (al_size l D cA (ad 1 (10 + t)) mc18 (ad 2 (10 + t)) (N 8 (t))) (cwV 0 hts (lw_V q448 q449 q450 q45 q451) rfl rfl rfl (by decide +kernel) ⟨Nat.le_of_ble_eq_true rfl, Nat.le_of_ble_eq_true rfl⟩) (preV hK hLi18.1 rfl hLi18.1) rfl rfl hl.1 rfl (lv_room (Nat.le_of_ble_eq_true rfl)) dX1_stop_79 ⟨Nat.le_of_ble_eq_true rfl, Nat.le_of_ble_eq_true rfl⟩) ?_
              refine lv_iconst (v := iI (1)) hx hb dX1_stop_82 rfl ?_
              refine ri_isub hx hb dX1_stop_83 ?_
              obtain ⟨mc19, cp19, cq19, cr19, hLi19⟩ := (hW.lp (t) (by omega))
              refine ri_top (b := ((N 8 (t) - 1 : Nat) : Int)) (by omega) ?_
              refine rc_V (W.runV (As := [.int (iI ((N 8 (t) - 1 : Nat)))]) (rest := []) ⟨hx, hb, hml, hown, hts⟩ (al_get l D cA (ad 1 (10 + t)) mc19 (ad 2 (10 + t)) (N 8 (t)) cp19 (fun j => ad 6 (10 * t + j)) (N 8 (t) - 1) (by omega)) (cwV 1 hts (lw_V q565 q566 q567 q45 q568) rfl rfl rfl (by decide +kernel) ⟨Nat.le_of_ble_eq_true rfl, Nat.le_of_ble_eq_true rfl⟩) (preV hK hLi19.1 rfl hLi19) rfl rfl hl.1 rfl (lv_room (Nat.le_of_ble_eq_true rfl)) dX1_stop_84 ⟨Nat.le_of_ble_eq_true rfl, Nat.le_of_ble_eq_true rfl⟩) ?_
              refine h_cast (ci := 4) (q := (RX5, TX5, 2)) hx hb hown (hts _ q699) hK rfl (isO.of (hW.k6 (t) (N 8 (t) - 1) (by omega) (by omega))) dX1_stop_87 ?_
              refine lv_astore (lv' := [(5, .ref (ad 6 (10 * t + (N 8 (t) - 1)))), (4, .ref (ad 4 (t))), (0, .ref (ad 0 (0))), (1, .int (iI (t))), (2, .int (iI (sv))), (3, .int (iI (mi)))]) hx hb dX1_stop_90 hl (by decide) rfl (fun ls hl => ?_)
              refine lv_aload hx hb dX1_stop_92 (lv_at hl 0 rfl) ?_
              refine lv_ifnull hx hb dX1_stop_94 ?_
              refine lv_aload hx hb dX1_stop_97 (lv_at hl 0 rfl) ?_
              have b20 : N 10 (10 * t + (N 8 (t) - 1)) ≤ 1439 := hN 10 _
              refine h_getN hx hb hts in_X5 hown hK (hW.k6 (t) (N 8 (t) - 1) (by omega) (by omega)) rfl 1 (by decide) q821 rfl (v := .int (iI (N 10 (10 * t + (N 8 (t) - 1))))) rfl dX1_stop_99 ?_
              refine lv_iload_n hx hb dX1_stop_102 rfl (lv_at hl 5 rfl) ?_
              refine ri_icmp_ge (tgt := 118) hx hb (by unfold inR; omega) (by unfold inR; omega) dX1_stop_103 (by decide) (fun h21 => ?_) (fun h21 => ?_)
              · skip
                exfalso; omega
              · skip
                refine lv_aload hx hb dX1_stop_106 (lv_at hl 0 rfl) ?_
                have b22 : N 9 (10 * t + (N 8 (t) - 1)) < F 2 := hwf.1 _ _ (by omega) (by omega)
                refine h_getN hx hb hts in_X5 hown hK (hW.k6 (t) (N 8 (t) - 1) (by omega) (by omega)) rfl 0 (by decide) q819 rfl (v := .ref (ad 3 (N 9 (10 * t + (N 8 (t) - 1))))) rfl dX1_stop_108 ?_
                refine h_getN hx hb hts in_X3 hown hK (hW.k3 (N 9 (10 * t + (N 8 (t) - 1))) (by omega)) rfl 0 (by decide) q459 rfl (v := .int (iI (N 9 (10 * t + (N 8 (t) - 1))))) rfl dX1_stop_111 ?_
                refine lv_iload_n hx hb dX1_stop_114 rfl (lv_at hl 4 rfl) ?_
                refine ri_icmp_ne (tgt := 120) hx hb (by unfold inR; omega) (by unfold inR; omega) dX1_stop_115 (by decide) (fun h23 => ?_) (fun h23 => ?_)
                · skip
                  refine lv_aload hx hb dX1_stop_120 (lv_at hl 1 rfl) ?_
                  refine h_getN hx hb hts in_X4 hown hK (hW.k4 (t) (by omega)) rfl 2 (by decide) q533 rfl (v := .ref (ad 1 (10 + t))) rfl dX1_stop_122 ?_
                  have hlt125 := hW.lt hF3 hN
                  have hgr125 := hW.2.2.2
                  refine h_new hx hb hts in_X5 tyX5 tyX5_ok hown (hts _ q699) (hts _ q812) (hts _ q67) hK hS (ci := 4) rfl (fs := [.null, .int (iI (0))]) (fun j hj => by match j, hj with | 0, _ => rfl | 1, _ => rfl) (Nat.le_of_ble_eq_true rfl) (Nat.le_of_ble_eq_true rfl) dX1_stop_125 (fun z H hq125 hXz o1 z1 hS => ?_)
                  have hAz : A z := hgr125 _ (by omega)
                  have hW := hW.keptL hF3 hN (by omega) (fun k i hl => o1 _ (hlt125 k i hl))
                  refine lv_dup hx hb dX1_stop_128 rfl ?_
                  refine lv_aload_n hx hb dX1_stop_129 rfl (lv_at hl 2 rfl) ?_
                  refine h_get hx hb hts in_X1 hown hK hW.c0 rfl 0 (by decide) (hts _ q421) rfl (v := .ref (ad 1 (0))) rfl dX1_stop_130 ?_
                  refine lv_iload_n hx hb dX1_stop_133 rfl (lv_at hl 4 rfl) ?_
                  obtain ⟨mc24, cp24, cq24, cr24, hLi24⟩ := hW.l0
                  refine rc_V (W.runV (As := [.int (iI (sv))]) (rest := [.ref z, .ref z, .ref (ad 1 (10 + t))]) ⟨hx, hb, hml, hown, hts⟩ (al_get l D cA (ad 1 (0)) mc24 (ad 2 (0)) (F 2) cp24 (ad 3) (sv) (by omega)) (cwV 1 hts (lw_V q565 q566 q567 q45 q568) rfl rfl rfl (by decide +kernel) ⟨Nat.le_of_ble_eq_true rfl, Nat.le_of_ble_eq_true rfl⟩) (preV hK hLi24.1 rfl hLi24) rfl rfl hl.1 rfl (lv_room (Nat.le_of_ble_eq_true rfl)) dX1_stop_134 ⟨Nat.le_of_ble_eq_true rfl, Nat.le_of_ble_eq_true rfl⟩) ?_
                  refine h_cast (ci := 2) (q := (RX3, TX3, 2)) hx hb hown (hts _ q452) hK rfl (isO.of (hW.k3 (sv) (by omega))) dX1_stop_137 ?_
                  refine lv_iload_n hx hb dX1_stop_140 rfl (lv_at hl 5 rfl) ?_
                  refine rc_N (W.runI (As := [.ref (ad 3 (sv)), .int (iI (mi))]) (rest := [.ref z, .ref (ad 1 (10 + t))]) ⟨hx, hb, hml, hown, hts⟩ (cc_X5_init l D cA z ((ad 3 (sv))) (mi)) (cwI 2 hts (lw_meth q815) rfl rfl rfl (hts _ q67) (hts _ q813) (hts _ q814) rfl (by decide +kernel) ⟨Nat.le_of_ble_eq_true rfl, Nat.le_of_ble_eq_true rfl⟩) (preS hK hXz) rfl rfl hl.1 rfl (lv_room (Nat.le_of_ble_eq_true rfl)) dX1_stop_141 ⟨Nat.le_of_ble_eq_true rfl, Nat.le_of_ble_eq_true rfl⟩) hS (fun q _ h => by rw [h]; exact hAz) (fun q h => by rw [h]; exact hAz) (fun H locs hXz hS hz hk => ?_)
                  have hW := hW.keptL hF3 hN hz (fun k i hl => hk _ (by have := hlt125 k i hl; omega) (by have := hlt125 k i hl; omega))
                  obtain ⟨mc25, cp25, cq25, cr25, hLi25⟩ := (hW.lp (t) (by omega))
                  refine rc_I (W.runV (As := [.ref z]) (rest := []) ⟨hx, hb, hml, hown, hts⟩ (al_add l D cA (ad 1 (10 + t)) mc25 (ad 2 (10 + t)) H.size (N 8 (t)) cp25 z 4 (fun j => ad 6 (10 * t + j)) cq25 (by omega) (by decide) (by have := hlt125 1 _ (lv_lp (t := t) (by omega) (by omega)); omega)) (cwV 1 hts (lw_V q468 q469 q470 q45 q471) rfl rfl rfl (by decide +kernel) ⟨Nat.le_of_ble_eq_true rfl, Nat.le_of_ble_eq_true rfl⟩) (preV hK hLi25.1 rfl ⟨hLi25, rfl, (fun j hj => ⟨4, by decide, isO.of (hW.k6 t j ht hj)⟩), (isO.of hXz), (by have := hlt125 2 _ (lv_ep (t := t) (by omega) (by omega)); omega), (fun j hj => hW.ne (lv_6 ht hj hm8) (lv_lp (t := t) (by omega) (by omega)) (Or.inl (by decide)))⟩) rfl rfl hl.1 rfl (lv_room (Nat.le_of_ble_eq_true rfl)) dX1_stop_144 ⟨Nat.le_of_ble_eq_true rfl, Nat.le_of_ble_eq_true rfl⟩) hS (fun q _ h => by rcases h with h | h | h; rw [h]; exact hW.hA 1 _ (lv_lp (by omega) (by omega)); rw [h]; exact hW.hA 2 _ (lv_ep (by omega) (by omega)); exact hW.2.2.2 q h) (fun q  h => by rcases h with h | h | h; rw [h]; exact hW.hA 1 _ (lv_lp (by omega) (by omega)); rw [h]; exact hW.hA 2 _ (lv_ep (by omega) (by omega)); exact hW.2.2.2 q h) (fun zr H locs hq hS hz hk => ?_)
                  obtain ⟨rfl, ez, hLz, hor⟩ := hq
                  have hcap := nxC_le (cap := cp25) (sz := N 8 (t)) cq25 cr25 (by omega)
                  have hzl := hXz.lt
                  have hl1 := hlt125 1 _ (lv_lp (t := t) (by omega) (by omega))
                  have hl2 := hlt125 2 _ (lv_ep (t := t) (by omega) (by omega))
                  have hXz := hXz.kept (hk _ hzl (by omega))
                  have e1 : (up2 (up2 ad 6 (10 * t + N 8 t) z) 2 (10 + t) ez) 2 (10 + t) = ez := up2_eq _ _ _ _
                  have e2 : (up2 (up2 ad 6 (10 * t + N 8 t) z) 2 (10 + t) ez) 6 (10 * t + N 8 t) = z := by rw [up2_ne (Or.inl (by decide)), up2_eq]
                  have hez : ez ≠ z := by omega
                  have hW := hW.addP (ad' := up2 (up2 ad 6 (10 * t + N 8 t) z) 2 (10 + t) ez) (n0 := z) (t := t) (s := sv) (mi := mi) hF3 hN hwf ht (by omega) hsv ⟨_, _, hcap.1, hcap.2, by rw [e1, e2]; exact hLz⟩ (by rw [e2]; exact hXz) (fun k i hl => by have := hlt125 k i hl; omega) (fun q h => hgr125 q (by omega)) (fun k i hn => by rcases hn with ⟨rfl, rfl⟩ | ⟨rfl, rfl⟩; rcases hor with h | h; exact Or.inr ⟨rfl, rfl, by rw [e1]; exact h⟩; exact Or.inl (by rw [e1]; omega); exact Or.inl (by rw [e2]; exact Nat.le_refl _)) (fun k i k' i' h1 h2 e => by rcases h1 with ⟨rfl, rfl⟩ | ⟨rfl, rfl⟩ <;> rcases h2 with ⟨rfl, rfl⟩ | ⟨rfl, rfl⟩ <;> simp only [e1, e2] at e <;> first | exact ⟨rfl, rfl⟩ | (exfalso; omega)) (fun k i hn => by rw [up2_ne (by omega), up2_ne (by omega)]) (fun q h1 h2 => hk q (by omega) (by omega)) (by omega)
                  have hN : NB (stopN N t sv mi) := ((hN.up (by show _ ≤ 9; omega)).up (by show _ ≤ 1439; omega)).up (by show _ ≤ 10; omega)
                  refine lv_pop hx hb dX1_stop_147 rfl ?_
                  refine lv_aload hx hb dX1_stop_148 (lv_at hl 1 rfl) ?_
                  refine h_getN hx hb hts in_X4 hown hK (hW.k4 (t) (by omega)) rfl 2 (by decide) q533 rfl (v := .ref (up2 (up2 ad 6 (10 * t + N 8 t) z) 2 (10 + t) ez 1 (10 + t))) rfl dX1_stop_150 ?_
                  have b27 : (stopN N t sv mi) 8 (t) ≤ 10 := hN 8 _
                  obtain ⟨mc26, cp26, cq26, cr26, hLi26⟩ := (hW.lp (t) (by omega))
                  refine rc_V (W.runV (As := []) (rest := []) ⟨hx, hb, hml, hown, hts⟩ (al_size l D cA (up2 (up2 ad 6 (10 * t + N 8 t) z) 2 (10 + t) ez 1 (10 + t)) mc26 (up2 (up2 ad 6 (10 * t + N 8 t) z) 2 (10 + t) ez 2 (10 + t)) ((stopN N t sv mi) 8 (t))) (cwV 0 hts (lw_V q448 q449 q450 q45 q451) rfl rfl rfl (by decide +kernel) ⟨Nat.le_of_ble_eq_true rfl, Nat.le_of_ble_eq_true rfl⟩) (preV hK hLi26.1 rfl hLi26.1) rfl rfl hl.1 rfl (lv_room (Nat.le_of_ble_eq_true rfl)) dX1_stop_153 ⟨Nat.le_of_ble_eq_true rfl, Nat.le_of_ble_eq_true rfl⟩) ?_
                  refine ri_top (b := (N 8 t + 1 : Nat)) (by show ((stopN N t sv mi 8 t : Nat) : Int) = _; unfold stopN; rw [up2_eq]) ?_
                  refine lv_iconst (v := iI (1)) hx hb dX1_stop_156 rfl ?_
                  refine ri_isub hx hb dX1_stop_157 ?_
                  refine ri_top (b := (N 8 t : Nat)) (by omega) ?_
                  exact W.iret hx hb hr (fun tt htt hWm => ⟨⟨_, rfl, by rw [htt]; exact ⟨rfl, up2 (up2 ad 6 (10 * t + N 8 t) z) 2 (10 + t) ez, rfl, hW⟩⟩, hS.F htt⟩) hS.2.2 dX1_stop_158
                · skip
                  exfalso; omega
            · skip
              exfalso; omega
        · skip
          refine lv_aload_n hx hb dX1_stop_43 rfl (lv_at hl 1 rfl) ?_
          refine lv_aload hx hb dX1_stop_44 (lv_at hl 0 rfl) ?_
          refine rc_V (W.runV (As := [.ref (ad 4 (t))]) (rest := []) ⟨hx, hb, hml, hown, hts⟩ (cc_X1_isPlanned l D cA A sa ad F N Z E K hKb hF hN hZ hwf t (by omega)) (cwV 1 hts (lw_V q803 q805 qs11 q42 q806) rfl rfl rfl (by decide +kernel) ⟨Nat.le_of_ble_eq_true rfl, Nat.le_of_ble_eq_true rfl⟩) (preVC hK hSX hS hW.c0 rfl hW) rfl rfl hl.1 rfl (lv_room (Nat.le_of_ble_eq_true rfl)) dX1_stop_46 ⟨Nat.le_of_ble_eq_true rfl, Nat.le_of_ble_eq_true rfl⟩) ?_
          refine ri_top (b := 0) (if_neg (show ¬ (plB F N t = true) from fun q => hpl ⟨by omega, q⟩)) ?_
          refine ri_if_eq (tgt := 54) hx hb (by unfold inR; omega) dX1_stop_49 (by decide) (fun h29 => ?_) (fun h29 => ?_)
          · skip
            refine lv_aload hx hb dX1_stop_54 (lv_at hl 0 rfl) ?_
            refine h_getN hx hb hts in_X4 hown hK (hW.k4 (t) (by omega)) rfl 2 (by decide) q533 rfl (v := .ref (ad 1 (10 + t))) rfl dX1_stop_56 ?_
            obtain ⟨mc30, cp30, cq30, cr30, hLi30⟩ := (hW.lp (t) (by omega))
            refine rc_V (W.runV (As := []) (rest := []) ⟨hx, hb, hml, hown, hts⟩ (al_isEmpty l D cA (ad 1 (10 + t)) mc30 (ad 2 (10 + t)) (N 8 (t)) (by omega)) (cwV 0 hts (lw_V q811 q671 q672 q45 q673) rfl rfl rfl (by decide +kernel) ⟨Nat.le_of_ble_eq_true rfl, Nat.le_of_ble_eq_true rfl⟩) (preV hK hLi30.1 rfl hLi30.1) rfl rfl hl.1 rfl (lv_room (Nat.le_of_ble_eq_true rfl)) dX1_stop_59 ⟨Nat.le_of_ble_eq_true rfl, Nat.le_of_ble_eq_true rfl⟩) ?_
            by_cases h31 : N 8 (t) = 0
            · refine ri_top (b := 1) (if_pos h31) ?_
              refine ri_if_eq (tgt := 69) hx hb (by unfold inR; omega) dX1_stop_62 (by decide) (fun h32 => ?_) (fun h32 => ?_)
              · skip
                exfalso; omega
              · skip
                refine lv_null hx hb dX1_stop_65 ?_
                refine lv_goto (tgt := 90) hx hb dX1_stop_66 (by decide) ?_
                refine lv_astoreN (lv' := [(5, .null), (4, .ref (ad 4 (t))), (0, .ref (ad 0 (0))), (1, .int (iI (t))), (2, .int (iI (sv))), (3, .int (iI (mi)))]) hx hb dX1_stop_90 hl (by decide) rfl (fun ls hl => ?_)
                refine lv_aloadN hx hb dX1_stop_92 (lv_at hl 0 rfl) ?_
                refine lv_ifnullN (tgt := 120) hx hb dX1_stop_94 (by decide) ?_
                refine lv_aload hx hb dX1_stop_120 (lv_at hl 1 rfl) ?_
                refine h_getN hx hb hts in_X4 hown hK (hW.k4 (t) (by omega)) rfl 2 (by decide) q533 rfl (v := .ref (ad 1 (10 + t))) rfl dX1_stop_122 ?_
                have hlt125 := hW.lt hF3 hN
                have hgr125 := hW.2.2.2
                refine h_new hx hb hts in_X5 tyX5 tyX5_ok hown (hts _ q699) (hts _ q812) (hts _ q67) hK hS (ci := 4) rfl (fs := [.null, .int (iI (0))]) (fun j hj => by match j, hj with | 0, _ => rfl | 1, _ => rfl) (Nat.le_of_ble_eq_true rfl) (Nat.le_of_ble_eq_true rfl) dX1_stop_125 (fun z H hq125 hXz o1 z1 hS => ?_)
                have hAz : A z := hgr125 _ (by omega)
                have hW := hW.keptL hF3 hN (by omega) (fun k i hl => o1 _ (hlt125 k i hl))
                refine lv_dup hx hb dX1_stop_128 rfl ?_
                refine lv_aload_n hx hb dX1_stop_129 rfl (lv_at hl 2 rfl) ?_
                refine h_get hx hb hts in_X1 hown hK hW.c0 rfl 0 (by decide) (hts _ q421) rfl (v := .ref (ad 1 (0))) rfl dX1_stop_130 ?_
                refine lv_iload_n hx hb dX1_stop_133 rfl (lv_at hl 4 rfl) ?_
                obtain ⟨mc33, cp33, cq33, cr33, hLi33⟩ := hW.l0
                refine rc_V (W.runV (As := [.int (iI (sv))]) (rest := [.ref z, .ref z, .ref (ad 1 (10 + t))]) ⟨hx, hb, hml, hown, hts⟩ (al_get l D cA (ad 1 (0)) mc33 (ad 2 (0)) (F 2) cp33 (ad 3) (sv) (by omega)) (cwV 1 hts (lw_V q565 q566 q567 q45 q568) rfl rfl rfl (by decide +kernel) ⟨Nat.le_of_ble_eq_true rfl, Nat.le_of_ble_eq_true rfl⟩) (preV hK hLi33.1 rfl hLi33) rfl rfl hl.1 rfl (lv_room (Nat.le_of_ble_eq_true rfl)) dX1_stop_134 ⟨Nat.le_of_ble_eq_true rfl, Nat.le_of_ble_eq_true rfl⟩) ?_
                refine h_cast (ci := 2) (q := (RX3, TX3, 2)) hx hb hown (hts _ q452) hK rfl (isO.of (hW.k3 (sv) (by omega))) dX1_stop_137 ?_
                refine lv_iload_n hx hb dX1_stop_140 rfl (lv_at hl 5 rfl) ?_
                refine rc_N (W.runI (As := [.ref (ad 3 (sv)), .int (iI (mi))]) (rest := [.ref z, .ref (ad 1 (10 + t))]) ⟨hx, hb, hml, hown, hts⟩ (cc_X5_init l D cA z ((ad 3 (sv))) (mi)) (cwI 2 hts (lw_meth q815) rfl rfl rfl (hts _ q67) (hts _ q813) (hts _ q814) rfl (by decide +kernel) ⟨Nat.le_of_ble_eq_true rfl, Nat.le_of_ble_eq_true rfl⟩) (preS hK hXz) rfl rfl hl.1 rfl (lv_room (Nat.le_of_ble_eq_true rfl)) dX1_stop_141 ⟨Nat.le_of_ble_eq_true rfl, Nat.le_of_ble_eq_true rfl⟩) hS (fun q _ h => by rw [h]; exact hAz) (fun q h => by rw [h]; exact hAz) (fun H locs hXz hS hz hk => ?_)
                have hW := hW.keptL hF3 hN hz (fun k i hl => hk _ (by have := hlt125 k i hl; omega) (by have := hlt125 k i hl; omega))
                obtain ⟨mc34, cp34, cq34, cr34, hLi34⟩ := (hW.lp (t) (by omega))
                refine rc_I (W.runV (As := [.ref z]) (rest := []) ⟨hx, hb, hml, hown, hts⟩ (al_add l D cA (ad 1 (10 + t)) mc34 (ad 2 (10 + t)) H.size (N 8 (t)) cp34 z 4 (fun j => ad 6 (10 * t + j)) cq34 (by omega) (by decide) (by have := hlt125 1 _ (lv_lp (t := t) (by omega) (by omega)); omega)) (cwV 1 hts (lw_V q468 q469 q470 q45 q471) rfl rfl rfl (by decide +kernel) ⟨Nat.le_of_ble_eq_true rfl, Nat.le_of_ble_eq_true rfl⟩) (preV hK hLi34.1 rfl ⟨hLi34, rfl, (fun j hj => ⟨4, by decide, isO.of (hW.k6 t j ht hj)⟩), (isO.of hXz), (by have := hlt125 2 _ (lv_ep (t := t) (by omega) (by omega)); omega), (fun j hj => hW.ne (lv_6 ht hj hm8) (lv_lp (t := t) (by omega) (by omega)) (Or.inl (by decide)))⟩) rfl rfl hl.1 rfl (lv_room (Nat.le_of_ble_eq_true rfl)) dX1_stop_144 ⟨Nat.le_of_ble_eq_true rfl, Nat.le_of_ble_eq_true rfl⟩) hS (fun q _ h => by rcases h with h | h | h; rw [h]; exact hW.hA 1 _ (lv_lp (by omega) (by omega)); rw [h]; exact hW.hA 2 _ (lv_ep (by omega) (by omega)); exact hW.2.2.2 q h) (fun q  h => by rcases h with h | h | h; rw [h]; exact hW.hA 1 _ (lv_lp (by omega) (by omega)); rw [h]; exact hW.hA 2 _ (lv_ep (by omega) (by omega)); exact hW.2.2.2 q h) (fun zr H locs hq hS hz hk => ?_)
                obtain ⟨rfl, ez, hLz, hor⟩ := hq
                have hcap := nxC_le (cap := cp34) (sz := N 8 (t)) cq34 cr34 (by omega)
                have hzl := hXz.lt
                have hl1 := hlt125 1 _ (lv_lp (t := t) (by omega) (by omega))
                have hl2 := hlt125 2 _ (lv_ep (t := t) (by omega) (by omega))
                have hXz := hXz.kept (hk _ hzl (by omega))
                have e1 : (up2 (up2 ad 6 (10 * t + N 8 t) z) 2 (10 + t) ez) 2 (10 + t) = ez := up2_eq _ _ _ _
                have e2 : (up2 (up2 ad 6 (10 * t + N 8 t) z) 2 (10 + t) ez) 6 (10 * t + N 8 t) = z := by rw [up2_ne (Or.inl (by decide)), up2_eq]
                have hez : ez ≠ z := by omega
                have hW := hW.addP (ad' := up2 (up2 ad 6 (10 * t + N 8 t) z) 2 (10 + t) ez) (n0 := z) (t := t) (s := sv) (mi := mi) hF3 hN hwf ht (by omega) hsv ⟨_, _, hcap.1, hcap.2, by rw [e1, e2]; exact hLz⟩ (by rw [e2]; exact hXz) (fun k i hl => by have := hlt125 k i hl; omega) (fun q h => hgr125 q (by omega)) (fun k i hn => by rcases hn with ⟨rfl, rfl⟩ | ⟨rfl, rfl⟩; rcases hor with h | h; exact Or.inr ⟨rfl, rfl, by rw [e1]; exact h⟩; exact Or.inl (by rw [e1]; omega); exact Or.inl (by rw [e2]; exact Nat.le_refl _)) (fun k i k' i' h1 h2 e => by rcases h1 with ⟨rfl, rfl⟩ | ⟨rfl, rfl⟩ <;> rcases h2 with ⟨rfl, rfl⟩ | ⟨rfl, rfl⟩ <;> simp only [e1, e2] at e <;> first | exact ⟨rfl, rfl⟩ | (exfalso; omega)) (fun k i hn => by rw [up2_ne (by omega), up2_ne (by omega)]) (fun q h1 h2 => hk q (by omega) (by omega)) (by omega)
                have hN : NB (stopN N t sv mi) := ((hN.up (by show _ ≤ 9; omega)).up (by show _ ≤ 1439; omega)).up (by show _ ≤ 10; omega)
                refine lv_pop hx hb dX1_stop_147 rfl ?_
                refine lv_aload hx hb dX1_stop_148 (lv_at hl 1 rfl) ?_
                refine h_getN hx hb hts in_X4 hown hK (hW.k4 (t) (by omega)) rfl 2 (by decide) q533 rfl (v := .ref (up2 (up2 ad 6 (10 * t + N 8 t) z) 2 (10 + t) ez 1 (10 + t))) rfl dX1_stop_150 ?_
                have b36 : (stopN N t sv mi) 8 (t) ≤ 10 := hN 8 _
                obtain ⟨mc35, cp35, cq35, cr35, hLi35⟩ := (hW.lp (t) (by omega))
                refine rc_V (W.runV (As := []) (rest := []) ⟨hx, hb, hml, hown, hts⟩ (al_size l D cA (up2 (up2 ad 6 (10 * t + N 8 t) z) 2 (10 + t) ez 1 (10 + t)) mc35 (up2 (up2 ad 6 (10 * t + N 8 t) z) 2 (10 + t) ez 2 (10 + t)) ((stopN N t sv mi) 8 (t))) (cwV 0 hts (lw_V q448 q449 q450 q45 q451) rfl rfl rfl (by decide +kernel) ⟨Nat.le_of_ble_eq_true rfl, Nat.le_of_ble_eq_true rfl⟩) (preV hK hLi35.1 rfl hLi35.1) rfl rfl hl.1 rfl (lv_room (Nat.le_of_ble_eq_true rfl)) dX1_stop_153 ⟨Nat.le_of_ble_eq_true rfl, Nat.le_of_ble_eq_true rfl⟩) ?_
                refine ri_top (b := (N 8 t + 1 : Nat)) (by show ((stopN N t sv mi 8 t : Nat) : Int) = _; unfold stopN; rw [up2_eq]) ?_
                refine lv_iconst (v := iI (1)) hx hb dX1_stop_156 rfl ?_
                refine ri_isub hx hb dX1_stop_157 ?_
                refine ri_top (b := (N 8 t : Nat)) (by omega) ?_
                exact W.iret hx hb hr (fun tt htt hWm => ⟨⟨_, rfl, by rw [htt]; exact ⟨rfl, up2 (up2 ad 6 (10 * t + N 8 t) z) 2 (10 + t) ez, rfl, hW⟩⟩, hS.F htt⟩) hS.2.2 dX1_stop_158
            · refine ri_top (b := 0) (if_neg h31) ?_
              refine ri_if_eq (tgt := 69) hx hb (by unfold inR; omega) dX1_stop_62 (by decide) (fun h37 => ?_) (fun h37 => ?_)
              · skip
                refine lv_aload hx hb dX1_stop_69 (lv_at hl 0 rfl) ?_
                refine h_getN hx hb hts in_X4 hown hK (hW.k4 (t) (by omega)) rfl 2 (by decide) q533 rfl (v := .ref (ad 1 (10 + t))) rfl dX1_stop_71 ?_
                refine lv_aload hx hb dX1_stop_74 (lv_at hl 0 rfl) ?_
                refine h_getN hx hb hts in_X4 hown hK (hW.k4 (t) (by omega)) rfl 2 (by decide) q533 rfl (v := .ref (ad 1 (10 + t))) rfl dX1_stop_76 ?_
                obtain ⟨mc38, cp38, cq38, cr38, hLi38⟩ := (hW.lp (t) (by omega))
                refine rc_V (W.runV (As := []) (rest := [.ref (ad 1 (10 + t))]) ⟨hx, hb, hml, hown, hts⟩ (al_size l D cA (ad 1 (10 + t)) mc38 (ad 2 (10 + t)) (N 8 (t))) (cwV 0 hts (lw_V q448 q449 q450 q45 q451) rfl rfl rfl (by decide +kernel) ⟨Nat.le_of_ble_eq_true rfl, Nat.le_of_ble_eq_true rfl⟩) (preV hK hLi38.1 rfl hLi38.1) rfl rfl hl.1 rfl (lv_room (Nat.le_of_ble_eq_true rfl)) dX1_stop_79 ⟨Nat.le_of_ble_eq_true rfl, Nat.le_of_ble_eq_true rfl⟩) ?_
                refine lv_iconst (v := iI (1)) hx hb dX1_stop_82 rfl ?_
                refine ri_isub hx hb dX1_stop_83 ?_
                obtain ⟨mc39, cp39, cq39, cr39, hLi39⟩ := (hW.lp (t) (by omega))
                refine ri_top (b := ((N 8 (t) - 1 : Nat) : Int)) (by omega) ?_
                refine rc_V (W.runV (As := [.int (iI ((N 8 (t) - 1 : Nat)))]) (rest := []) ⟨hx, hb, hml, hown, hts⟩ (al_get l D cA (ad 1 (10 + t)) mc39 (ad 2 (10 + t)) (N 8 (t)) cp39 (fun j => ad 6 (10 * t + j)) (N 8 (t) - 1) (by omega)) (cwV 1 hts (lw_V q565 q566 q567 q45 q568) rfl rfl rfl (by decide +kernel) ⟨Nat.le_of_ble_eq_true rfl, Nat.le_of_ble_eq_true rfl⟩) (preV hK hLi39.1 rfl hLi39) rfl rfl hl.1 rfl (lv_room (Nat.le_of_ble_eq_true rfl)) dX1_stop_84 ⟨Nat.le_of_ble_eq_true rfl, Nat.le_of_ble_eq_true rfl⟩) ?_
                refine h_cast (ci := 4) (q := (RX5, TX5, 2)) hx hb hown (hts _ q699) hK rfl (isO.of (hW.k6 (t) (N 8 (t) - 1) (by omega) (by omega))) dX1_stop_87 ?_
                refine lv_astore (lv' := [(5, .ref (ad 6 (10 * t + (N 8 (t) - 1)))), (4, .ref (ad 4 (t))), (0, .ref (ad 0 (0))), (1, .int (iI (t))), (2, .int (iI (sv))), (3, .int (iI (mi)))]) hx hb dX1_stop_90 hl (by decide) rfl (fun ls hl => ?_)
                refine lv_aload hx hb dX1_stop_92 (lv_at hl 0 rfl) ?_
                refine lv_ifnull hx hb dX1_stop_94 ?_
                refine lv_aload hx hb dX1_stop_97 (lv_at hl 0 rfl) ?_
                have b40 : N 10 (10 * t + (N 8 (t) - 1)) ≤ 1439 := hN 10 _
                refine h_getN hx hb hts in_X5 hown hK (hW.k6 (t) (N 8 (t) - 1) (by omega) (by omega)) rfl 1 (by decide) q821 rfl (v := .int (iI (N 10 (10 * t + (N 8 (t) - 1))))) rfl dX1_stop_99 ?_
                refine lv_iload_n hx hb dX1_stop_102 rfl (lv_at hl 5 rfl) ?_
                refine ri_icmp_ge (tgt := 118) hx hb (by unfold inR; omega) (by unfold inR; omega) dX1_stop_103 (by decide) (fun h41 => ?_) (fun h41 => ?_)
                · skip
                  exfalso; omega
                · skip
                  refine lv_aload hx hb dX1_stop_106 (lv_at hl 0 rfl) ?_
                  have b42 : N 9 (10 * t + (N 8 (t) - 1)) < F 2 := hwf.1 _ _ (by omega) (by omega)
                  refine h_getN hx hb hts in_X5 hown hK (hW.k6 (t) (N 8 (t) - 1) (by omega) (by omega)) rfl 0 (by decide) q819 rfl (v := .ref (ad 3 (N 9 (10 * t + (N 8 (t) - 1))))) rfl dX1_stop_108 ?_
                  refine h_getN hx hb hts in_X3 hown hK (hW.k3 (N 9 (10 * t + (N 8 (t) - 1))) (by omega)) rfl 0 (by decide) q459 rfl (v := .int (iI (N 9 (10 * t + (N 8 (t) - 1))))) rfl dX1_stop_111 ?_
                  refine lv_iload_n hx hb dX1_stop_114 rfl (lv_at hl 4 rfl) ?_
                  refine ri_icmp_ne (tgt := 120) hx hb (by unfold inR; omega) (by unfold inR; omega) dX1_stop_115 (by decide) (fun h43 => ?_) (fun h43 => ?_)
                  · skip
                    refine lv_aload hx hb dX1_stop_120 (lv_at hl 1 rfl) ?_
                    refine h_getN hx hb hts in_X4 hown hK (hW.k4 (t) (by omega)) rfl 2 (by decide) q533 rfl (v := .ref (ad 1 (10 + t))) rfl dX1_stop_122 ?_
                    have hlt125 := hW.lt hF3 hN
                    have hgr125 := hW.2.2.2
                    refine h_new hx hb hts in_X5 tyX5 tyX5_ok hown (hts _ q699) (hts _ q812) (hts _ q67) hK hS (ci := 4) rfl (fs := [.null, .int (iI (0))]) (fun j hj => by match j, hj with | 0, _ => rfl | 1, _ => rfl) (Nat.le_of_ble_eq_true rfl) (Nat.le_of_ble_eq_true rfl) dX1_stop_125 (fun z H hq125 hXz o1 z1 hS => ?_)
                    have hAz : A z := hgr125 _ (by omega)
                    have hW := hW.keptL hF3 hN (by omega) (fun k i hl => o1 _ (hlt125 k i hl))
                    refine lv_dup hx hb dX1_stop_128 rfl ?_
                    refine lv_aload_n hx hb dX1_stop_129 rfl (lv_at hl 2 rfl) ?_
                    refine h_get hx hb hts in_X1 hown hK hW.c0 rfl 0 (by decide) (hts _ q421) rfl (v := .ref (ad 1 (0))) rfl dX1_stop_130 ?_
                    refine lv_iload_n hx hb dX1_stop_133 rfl (lv_at hl 4 rfl) ?_
                    obtain ⟨mc44, cp44, cq44, cr44, hLi44⟩ := hW.l0
                    refine rc_V (W.runV (As := [.int (iI (sv))]) (rest := [.ref z, .ref z, .ref (ad 1 (10 + t))]) ⟨hx, hb, hml, hown, hts⟩ (al_get l D cA (ad 1 (0)) mc44 (ad 2 (0)) (F 2) cp44 (ad 3) (sv) (by omega)) (cwV 1 hts (lw_V q565 q566 q567 q45 q568) rfl rfl rfl (by decide +kernel) ⟨Nat.le_of_ble_eq_true rfl, Nat.le_of_ble_eq_true rfl⟩) (preV hK hLi44.1 rfl hLi44) rfl rfl hl.1 rfl (lv_room (Nat.le_of_ble_eq_true rfl)) dX1_stop_134 ⟨Nat.le_of_ble_eq_true rfl, Nat.le_of_ble_eq_true rfl⟩) ?_
                    refine h_cast (ci := 2) (q := (RX3, TX3, 2)) hx hb hown (hts _ q452) hK rfl (isO.of (hW.k3 (sv) (by omega))) dX1_stop_137 ?_
                    refine lv_iload_n hx hb dX1_stop_140 rfl (lv_at hl 5 rfl) ?_
                    refine rc_N (W.runI (As := [.ref (ad 3 (sv)), .int (iI (mi))]) (rest := [.ref z, .ref (ad 1 (10 + t))]) ⟨hx, hb, hml, hown, hts⟩ (cc_X5_init l D cA z ((ad 3 (sv))) (mi)) (cwI 2 hts (lw_meth q815) rfl rfl rfl (hts _ q67) (hts _ q813) (hts _ q814) rfl (by decide +kernel) ⟨Nat.le_of_ble_eq_true rfl, Nat.le_of_ble_eq_true rfl⟩) (preS hK hXz) rfl rfl hl.1 rfl (lv_room (Nat.le_of_ble_eq_true rfl)) dX1_stop_141 ⟨Nat.le_of_ble_eq_true rfl, Nat.le_of_ble_eq_true rfl⟩) hS (fun q _ h => by rw [h]; exact hAz) (fun q h => by rw [h]; exact hAz) (fun H locs hXz hS hz hk => ?_)
                    have hW := hW.keptL hF3 hN hz (fun k i hl => hk _ (by have := hlt125 k i hl; omega) (by have := hlt125 k i hl; omega))
                    obtain ⟨mc45, cp45, cq45, cr45, hLi45⟩ := (hW.lp (t) (by omega))
                    refine rc_I (W.runV (As := [.ref z]) (rest := []) ⟨hx, hb, hml, hown, hts⟩ (al_add l D cA (ad 1 (10 + t)) mc45 (ad 2 (10 + t)) H.size (N 8 (t)) cp45 z 4 (fun j => ad 6 (10 * t + j)) cq45 (by omega) (by decide) (by have := hlt125 1 _ (lv_lp (t := t) (by omega) (by omega)); omega)) (cwV 1 hts (lw_V q468 q469 q470 q45 q471) rfl rfl rfl (by decide +kernel) ⟨Nat.le_of_ble_eq_true rfl, Nat.le_of_ble_eq_true rfl⟩) (preV hK hLi45.1 rfl ⟨hLi45, rfl, (fun j hj => ⟨4, by decide, isO.of (hW.k6 t j ht hj)⟩), (isO.of hXz), (by have := hlt125 2 _ (lv_ep (t := t) (by omega) (by omega)); omega), (fun j hj => hW.ne (lv_6 ht hj hm8) (lv_lp (t := t) (by omega) (by omega)) (Or.inl (by decide)))⟩) rfl rfl hl.1 rfl (lv_room (Nat.le_of_ble_eq_true rfl)) dX1_stop_144 ⟨Nat.le_of_ble_eq_true rfl, Nat.le_of_ble_eq_true rfl⟩) hS (fun q _ h => by rcases h with h | h | h; rw [h]; exact hW.hA 1 _ (lv_lp (by omega) (by omega)); rw [h]; exact hW.hA 2 _ (lv_ep (by omega) (by omega)); exact hW.2.2.2 q h) (fun q  h => by rcases h with h | h | h; rw [h]; exact hW.hA 1 _ (lv_lp (by omega) (by omega)); rw [h]; exact hW.hA 2 _ (lv_ep (by omega) (by omega)); exact hW.2.2.2 q h) (fun zr H locs hq hS hz hk => ?_)
                    obtain ⟨rfl, ez, hLz, hor⟩ := hq
                    have hcap := nxC_le (cap := cp45) (sz := N 8 (t)) cq45 cr45 (by omega)
                    have hzl := hXz.lt
                    have hl1 := hlt125 1 _ (lv_lp (t := t) (by omega) (by omega))
                    have hl2 := hlt125 2 _ (lv_ep (t := t) (by omega) (by omega))
                    have hXz := hXz.kept (hk _ hzl (by omega))
                    have e1 : (up2 (up2 ad 6 (10 * t + N 8 t) z) 2 (10 + t) ez) 2 (10 + t) = ez := up2_eq _ _ _ _
                    have e2 : (up2 (up2 ad 6 (10 * t + N 8 t) z) 2 (10 + t) ez) 6 (10 * t + N 8 t) = z := by rw [up2_ne (Or.inl (by decide)), up2_eq]
                    have hez : ez ≠ z := by omega
                    have hW := hW.addP (ad' := up2 (up2 ad 6 (10 * t + N 8 t) z) 2 (10 + t) ez) (n0 := z) (t := t) (s := sv) (mi := mi) hF3 hN hwf ht (by omega) hsv ⟨_, _, hcap.1, hcap.2, by rw [e1, e2]; exact hLz⟩ (by rw [e2]; exact hXz) (fun k i hl => by have := hlt125 k i hl; omega) (fun q h => hgr125 q (by omega)) (fun k i hn => by rcases hn with ⟨rfl, rfl⟩ | ⟨rfl, rfl⟩; rcases hor with h | h; exact Or.inr ⟨rfl, rfl, by rw [e1]; exact h⟩; exact Or.inl (by rw [e1]; omega); exact Or.inl (by rw [e2]; exact Nat.le_refl _)) (fun k i k' i' h1 h2 e => by rcases h1 with ⟨rfl, rfl⟩ | ⟨rfl, rfl⟩ <;> rcases h2 with ⟨rfl, rfl⟩ | ⟨rfl, rfl⟩ <;> simp only [e1, e2] at e <;> first | exact ⟨rfl, rfl⟩ | (exfalso; omega)) (fun k i hn => by rw [up2_ne (by omega), up2_ne (by omega)]) (fun q h1 h2 => hk q (by omega) (by omega)) (by omega)
                    have hN : NB (stopN N t sv mi) := ((hN.up (by show _ ≤ 9; omega)).up (by show _ ≤ 1439; omega)).up (by show _ ≤ 10; omega)
                    refine lv_pop hx hb dX1_stop_147 rfl ?_
                    refine lv_aload hx hb dX1_stop_148 (lv_at hl 1 rfl) ?_
                    refine h_getN hx hb hts in_X4 hown hK (hW.k4 (t) (by omega)) rfl 2 (by decide) q533 rfl (v := .ref (up2 (up2 ad 6 (10 * t + N 8 t) z) 2 (10 + t) ez 1 (10 + t))) rfl dX1_stop_150 ?_
                    have b47 : (stopN N t sv mi) 8 (t) ≤ 10 := hN 8 _
                    obtain ⟨mc46, cp46, cq46, cr46, hLi46⟩ := (hW.lp (t) (by omega))
                    refine rc_V (W.runV (As := []) (rest := []) ⟨hx, hb, hml, hown, hts⟩ (al_size l D cA (up2 (up2 ad 6 (10 * t + N 8 t) z) 2 (10 + t) ez 1 (10 + t)) mc46 (up2 (up2 ad 6 (10 * t + N 8 t) z) 2 (10 + t) ez 2 (10 + t)) ((stopN N t sv mi) 8 (t))) (cwV 0 hts (lw_V q448 q449 q450 q45 q451) rfl rfl rfl (by decide +kernel) ⟨Nat.le_of_ble_eq_true rfl, Nat.le_of_ble_eq_true rfl⟩) (preV hK hLi46.1 rfl hLi46.1) rfl rfl hl.1 rfl (lv_room (Nat.le_of_ble_eq_true rfl)) dX1_stop_153 ⟨Nat.le_of_ble_eq_true rfl, Nat.le_of_ble_eq_true rfl⟩) ?_
                    refine ri_top (b := (N 8 t + 1 : Nat)) (by show ((stopN N t sv mi 8 t : Nat) : Int) = _; unfold stopN; rw [up2_eq]) ?_
                    refine lv_iconst (v := iI (1)) hx hb dX1_stop_156 rfl ?_
                    refine ri_isub hx hb dX1_stop_157 ?_
                    refine ri_top (b := (N 8 t : Nat)) (by omega) ?_
                    exact W.iret hx hb hr (fun tt htt hWm => ⟨⟨_, rfl, by rw [htt]; exact ⟨rfl, up2 (up2 ad 6 (10 * t + N 8 t) z) 2 (10 + t) ez, rfl, hW⟩⟩, hS.F htt⟩) hS.2.2 dX1_stop_158
                  · skip
                    exfalso; omega
              · skip
                exfalso; omega
          · skip
            exfalso; omega

set_option maxHeartbeats 4000000 in
set_option maxRecDepth 100000 in
theorem cc_X1_stop_n (l : Launch) (D : va_G) (cA : Nat → ClassId) (A : Nat → Prop) (sa : Nat → Nat) (ad : Nat → Nat → Nat) (F : Nat → Nat) (N : Nat → Nat → Nat) (Z : Nat → Int) (E : Nat → Nat → Int) (K : Nat) (hKb : K ≤ 1000000) (hF : FB F) (hN : NB N) (hZ : ZB K Z) (hwf : WF F N) (t : Nat) (sv : Int) (q_sv : inR sv) (mi : Int) (q_mi : inR mi) (ht : t < F 3) (hbad : ¬ (N 8 t ≠ 10 ∧ 0 ≤ sv ∧ sv < F 2 ∧ 0 ≤ mi ∧ mi ≤ 1439 ∧ ¬ (N 23 t ≠ 0 ∧ plB F N t = true) ∧ ¬ (0 < N 8 t ∧ (mi ≤ N 10 (10 * t + (N 8 t - 1)) ∨ (N 9 (10 * t + (N 8 t - 1)) : Int) = sv)))) : Met l yX1_stop (ws_ yX1_stop cX1_stop 6 (some .int)) ({ frames := 6, cells := 0, slots := 0, locals := 150 }) (PC D cA A sa ad F N Z E [.ref (ad 0 (0)), .int (iI (t)), .int (iI (sv)), .int (iI (mi))]) (k2_QcV (.int (iI (-1)))) 0 0 (fun _ => False) := by
  refine Met.ofW (cc := cX1_stop) (maxL := 6) (ret := (some .int)) (by decide) rfl ?_
  intro p e s m args below meth c s₁ B hml hv
  obtain ⟨rfl, hK, hW⟩ := hv
  have hx := B.exec
  have hb := B.bytes
  have hr := B.returns
  have hts := atoms_spec (ws := ws_ yX1_stop cX1_stop 6 (some .int)) B.pre
  have hts : ∀ w ∈ lw_all, w.before _ s = true := fun w h => hts w (List.mem_cons_of_mem _ h)
  have hown : s.vm.findClass RX1 = some m.cls := findClass_of_methodNamed B.named
  have hlocks := B.notSynchronized
  have hl := lv_entry ([.ref (ad 0 (0)), .int (iI (t)), .int (iI (sv)), .int (iI (mi))]) (n := 6) (Nat.le_of_ble_eq_true rfl)
  rw [lg_entry_eq]
  generalize (lg_sl ([.ref (ad 0 (0)), .int (iI (t)), .int (iI (sv)), .int (iI (mi))]) ++ List.replicate (6 - (lg_sl ([.ref (ad 0 (0)), .int (iI (t)), .int (iI (sv)), .int (iI (mi))])).length) Slot.unset).toArray = ls at hl ⊢
  have hl : lv_has ls 6 [(0, .ref (ad 0 (0))), (1, .int (iI (t))), (2, .int (iI (sv))), (3, .int (iI (mi)))] := hl
  obtain ⟨hSX, hW⟩ := hW
  have hS : va_S A s.heap s.heap [] := va_S.rf
  have hF2 : F 2 ≤ 10 := hF 2
  have hF3 : F 3 ≤ 16 := hF 3
  have hF4 : F 4 ≤ 60 := hF 4
  have hF5 : F 5 ≤ 40 := hF 5
  have hF1 : F 1 ≤ 1439 := hF 1
  have p_sv := q_sv; unfold inR at p_sv
  have p_mi := q_mi; unfold inR at p_mi
  have hm8 : N 8 t ≤ 10 := hN 8 t
  refine lv_aload_n hx hb dX1_stop_0 rfl (lv_at hl 0 rfl) ?_
  refine lv_iload_n hx hb dX1_stop_1 rfl (lv_at hl 1 rfl) ?_
  refine rc_V (W.runV (As := [.int (iI (t))]) (rest := []) ⟨hx, hb, hml, hown, hts⟩ (cc_X1_trainAt l D cA A sa ad F N Z E K hKb hF hN hZ hwf t (by omega)) (cwV 1 hts (lw_V q775 q777 qs10 q42 q778) rfl rfl rfl (by decide +kernel) ⟨Nat.le_of_ble_eq_true rfl, Nat.le_of_ble_eq_true rfl⟩) (preVC hK hSX hS hW.c0 rfl hW) rfl rfl hl.1 rfl (lv_room (Nat.le_of_ble_eq_true rfl)) dX1_stop_2 ⟨Nat.le_of_ble_eq_true rfl, Nat.le_of_ble_eq_true rfl⟩) ?_
  refine lv_astore (lv' := [(4, .ref (ad 4 (t))), (0, .ref (ad 0 (0))), (1, .int (iI (t))), (2, .int (iI (sv))), (3, .int (iI (mi)))]) hx hb dX1_stop_5 hl (by decide) rfl (fun ls hl => ?_)
  refine lv_aload hx hb dX1_stop_7 (lv_at hl 0 rfl) ?_
  refine h_getN hx hb hts in_X4 hown hK (hW.k4 (t) (by omega)) rfl 2 (by decide) q533 rfl (v := .ref (ad 1 (10 + t))) rfl dX1_stop_9 ?_
  have b2 : N 8 (t) ≤ 10 := hN 8 _
  obtain ⟨mc1, cp1, cq1, cr1, hLi1⟩ := (hW.lp (t) (by omega))
  refine rc_V (W.runV (As := []) (rest := []) ⟨hx, hb, hml, hown, hts⟩ (al_size l D cA (ad 1 (10 + t)) mc1 (ad 2 (10 + t)) (N 8 (t))) (cwV 0 hts (lw_V q448 q449 q450 q45 q451) rfl rfl rfl (by decide +kernel) ⟨Nat.le_of_ble_eq_true rfl, Nat.le_of_ble_eq_true rfl⟩) (preV hK hLi1.1 rfl hLi1.1) rfl rfl hl.1 rfl (lv_room (Nat.le_of_ble_eq_true rfl)) dX1_stop_12 ⟨Nat.le_of_ble_eq_true rfl, Nat.le_of_ble_eq_true rfl⟩) ?_
  refine lv_bipush (v := iI (10)) hx hb dX1_stop_15 (by decide) ?_
  refine ri_icmp_eq (tgt := 52) hx hb (by unfold inR; omega) (by unfold inR; omega) dX1_stop_17 (by decide) (fun h3 => ?_) (fun h3 => ?_)
  · skip
    refine lv_iconst (v := iI (-1)) hx hb dX1_stop_52 rfl ?_
    exact W.iret hx hb hr (fun tt htt hWm => ⟨rfl, htt⟩) (fun _ h => absurd h List.not_mem_nil) dX1_stop_53
  · skip
    refine lv_aload_n hx hb dX1_stop_20 rfl (lv_at hl 1 rfl) ?_
    refine lv_iload_n hx hb dX1_stop_21 rfl (lv_at hl 3 rfl) ?_
    refine rc_V (W.runV (As := [.int (iI (sv))]) (rest := []) ⟨hx, hb, hml, hown, hts⟩ (cc_X1_isStation l D cA A sa ad F N Z E K hKb hF hN hZ hwf sv (by unfold inR; omega)) (cwV 1 hts (lw_V q556 q558 qs4 q42 q559) rfl rfl rfl (by decide +kernel) ⟨Nat.le_of_ble_eq_true rfl, Nat.le_of_ble_eq_true rfl⟩) (preVC hK hSX hS hW.c0 rfl hW) rfl rfl hl.1 rfl (lv_room (Nat.le_of_ble_eq_true rfl)) dX1_stop_22 ⟨Nat.le_of_ble_eq_true rfl, Nat.le_of_ble_eq_true rfl⟩) ?_
    by_cases h4 : 0 ≤ (sv : Int) ∧ (sv : Int) < (F 2 : Nat)
    · refine ri_top (b := 1) (if_pos h4) ?_
      refine ri_if_eq (tgt := 52) hx hb (by unfold inR; omega) dX1_stop_25 (by decide) (fun h5 => ?_) (fun h5 => ?_)
      · skip
        exfalso; omega
      · skip
        refine lv_iload_n hx hb dX1_stop_28 rfl (lv_at hl 4 rfl) ?_
        refine rc_V (W.runS (As := [.int (iI (mi))]) (rest := []) ⟨hx, hb, hml, hown, hts⟩ (cc_X1_isMinute l D cA mi (by unfold inR; omega)) (va_cwS 1 hts (lw_S q560 q561 q42 q562) rfl rfl rfl (by decide +kernel) ⟨Nat.le_of_ble_eq_true rfl, Nat.le_of_ble_eq_true rfl⟩) (preS hK (B := fun _ => True) trivial) rfl rfl hl.1 rfl (lv_room (Nat.le_of_ble_eq_true rfl)) dX1_stop_29 ⟨Nat.le_of_ble_eq_true rfl, Nat.le_of_ble_eq_true rfl⟩) ?_
        by_cases h6 : 0 ≤ (mi : Int) ∧ (mi : Int) ≤ 1439
        · refine ri_top (b := 1) (if_pos h6) ?_
          refine ri_if_eq (tgt := 52) hx hb (by unfold inR; omega) dX1_stop_32 (by decide) (fun h7 => ?_) (fun h7 => ?_)
          · skip
            exfalso; omega
          · skip
            refine lv_aload hx hb dX1_stop_35 (lv_at hl 0 rfl) ?_
            have b8 : N 23 (t) ≤ 1 := hN 23 _
            refine h_getN hx hb hts in_X4 hown hK (hW.k4 (t) (by omega)) rfl 5 (by decide) q538 rfl (v := .int (iI (N 23 (t)))) rfl dX1_stop_37 ?_
            refine ri_if_eq (tgt := 54) hx hb (by unfold inR; omega) dX1_stop_40 (by decide) (fun h9 => ?_) (fun h9 => ?_)
            · skip
              refine lv_aload hx hb dX1_stop_54 (lv_at hl 0 rfl) ?_
              refine h_getN hx hb hts in_X4 hown hK (hW.k4 (t) (by omega)) rfl 2 (by decide) q533 rfl (v := .ref (ad 1 (10 + t))) rfl dX1_stop_56 ?_
              obtain ⟨mc10, cp10, cq10, cr10, hLi10⟩ := (hW.lp (t) (by omega))
              refine rc_V (W.runV (As := []) (rest := []) ⟨hx, hb, hml, hown, hts⟩ (al_isEmpty l D cA (ad 1 (10 + t)) mc10 (ad 2 (10 + t)) (N 8 (t)) (by omega)) (cwV 0 hts (lw_V q811 q671 q672 q45 q673) rfl rfl rfl (by decide +kernel) ⟨Nat.le_of_ble_eq_true rfl, Nat.le_of_ble_eq_true rfl⟩) (preV hK hLi10.1 rfl hLi10.1) rfl rfl hl.1 rfl (lv_room (Nat.le_of_ble_eq_true rfl)) dX1_stop_59 ⟨Nat.le_of_ble_eq_true rfl, Nat.le_of_ble_eq_true rfl⟩) ?_
              by_cases h11 : N 8 (t) = 0
              · refine ri_top (b := 1) (if_pos h11) ?_
                refine ri_if_eq (tgt := 69) hx hb (by unfold inR; omega) dX1_stop_62 (by decide) (fun h12 => ?_) (fun h12 => ?_)
                · skip
                  exfalso; omega
                · skip
                  refine lv_null hx hb dX1_stop_65 ?_
                  refine lv_goto (tgt := 90) hx hb dX1_stop_66 (by decide) ?_
                  refine lv_astoreN (lv' := [(5, .null), (4, .ref (ad 4 (t))), (0, .ref (ad 0 (0))), (1, .int (iI (t))), (2, .int (iI (sv))), (3, .int (iI (mi)))]) hx hb dX1_stop_90 hl (by decide) rfl (fun ls hl => ?_)
                  refine lv_aloadN hx hb dX1_stop_92 (lv_at hl 0 rfl) ?_
                  refine lv_ifnullN (tgt := 120) hx hb dX1_stop_94 (by decide) ?_
                  exact absurd ⟨by omega, by omega, by omega, by omega, by omega, by first | exact fun q => ‹¬ plB F N t = true› q.2 | exact fun q => absurd q.1 (by omega), by omega⟩ hbad
              · refine ri_top (b := 0) (if_neg h11) ?_
                refine ri_if_eq (tgt := 69) hx hb (by unfold inR; omega) dX1_stop_62 (by decide) (fun h13 => ?_) (fun h13 => ?_)
                · skip
                  refine lv_aload hx hb dX1_stop_69 (lv_at hl 0 rfl) ?_
                  refine h_getN hx hb hts in_X4 hown hK (hW.k4 (t) (by omega)) rfl 2 (by decide) q533 rfl (v := .ref (ad 1 (10 + t))) rfl dX1_stop_71 ?_
                  refine lv_aload hx hb dX1_stop_74 (lv_at hl 0 rfl) ?_
                  refine h_getN hx hb hts in_X4 hown hK (hW.k4 (t) (by omega)) rfl 2 (by decide) q533 rfl (v := .ref (ad 1 (10 + t))) rfl dX1_stop_76 ?_
                  obtain ⟨mc14, cp14, cq14, cr14, hLi14⟩ := (hW.lp (t) (by omega))
                  refine rc_V (W.runV (As := []) (rest := [.ref (ad 1 (10 + t))]) ⟨hx, hb, hml, hown, hts⟩ (al_size l D cA (ad 1 (10 + t)) mc14 (ad 2 (10 + t)) (N 8 (t))) (cwV 0 hts (lw_V q448 q449 q450 q45 q451) rfl rfl rfl (by decide +kernel) ⟨Nat.le_of_ble_eq_true rfl, Nat.le_of_ble_eq_true rfl⟩) (preV hK hLi14.1 rfl hLi14.1) rfl rfl hl.1 rfl (lv_room (Nat.le_of_ble_eq_true rfl)) dX1_stop_79 ⟨Nat.le_of_ble_eq_true rfl, Nat.le_of_ble_eq_true rfl⟩) ?_
                  refine lv_iconst (v := iI (1)) hx hb dX1_stop_82 rfl ?_
                  refine ri_isub hx hb dX1_stop_83 ?_
                  obtain ⟨mc15, cp15, cq15, cr15, hLi15⟩ := (hW.lp (t) (by omega))
                  refine ri_top (b := ((N 8 (t) - 1 : Nat) : Int)) (by omega) ?_
                  refine rc_V (W.runV (As := [.int (iI ((N 8 (t) - 1 : Nat)))]) (rest := []) ⟨hx, hb, hml, hown, hts⟩ (al_get l D cA (ad 1 (10 + t)) mc15 (ad 2 (10 + t)) (N 8 (t)) cp15 (fun j => ad 6 (10 * t + j)) (N 8 (t) - 1) (by omega)) (cwV 1 hts (lw_V q565 q566 q567 q45 q568) rfl rfl rfl (by decide +kernel) ⟨Nat.le_of_ble_eq_true rfl, Nat.le_of_ble_eq_true rfl⟩) (preV hK hLi15.1 rfl hLi15) rfl rfl hl.1 rfl (lv_room (Nat.le_of_ble_eq_true rfl)) dX1_stop_84 ⟨Nat.le_of_ble_eq_true rfl, Nat.le_of_ble_eq_true rfl⟩) ?_
                  refine h_cast (ci := 4) (q := (RX5, TX5, 2)) hx hb hown (hts _ q699) hK rfl (isO.of (hW.k6 (t) (N 8 (t) - 1) (by omega) (by omega))) dX1_stop_87 ?_
                  refine lv_astore (lv' := [(5, .ref (ad 6 (10 * t + (N 8 (t) - 1)))), (4, .ref (ad 4 (t))), (0, .ref (ad 0 (0))), (1, .int (iI (t))), (2, .int (iI (sv))), (3, .int (iI (mi)))]) hx hb dX1_stop_90 hl (by decide) rfl (fun ls hl => ?_)
                  refine lv_aload hx hb dX1_stop_92 (lv_at hl 0 rfl) ?_
                  refine lv_ifnull hx hb dX1_stop_94 ?_
                  refine lv_aload hx hb dX1_stop_97 (lv_at hl 0 rfl) ?_
                  have b16 : N 10 (10 * t + (N 8 (t) - 1)) ≤ 1439 := hN 10 _
                  refine h_getN hx hb hts in_X5 hown hK (hW.k6 (t) (N 8 (t) - 1) (by omega) (by omega)) rfl 1 (by decide) q821 rfl (v := .int (iI (N 10 (10 * t + (N 8 (t) - 1))))) rfl dX1_stop_99 ?_
                  refine lv_iload_n hx hb dX1_stop_102 rfl (lv_at hl 5 rfl) ?_
                  refine ri_icmp_ge (tgt := 118) hx hb (by unfold inR; omega) q_mi dX1_stop_103 (by decide) (fun h17 => ?_) (fun h17 => ?_)
                  · skip
                    refine lv_iconst (v := iI (-1)) hx hb dX1_stop_118 rfl ?_
                    exact W.iret hx hb hr (fun tt htt hWm => ⟨rfl, htt⟩) (fun _ h => absurd h List.not_mem_nil) dX1_stop_119
                  · skip
                    refine lv_aload hx hb dX1_stop_106 (lv_at hl 0 rfl) ?_
                    have b18 : N 9 (10 * t + (N 8 (t) - 1)) < F 2 := hwf.1 _ _ (by omega) (by omega)
                    refine h_getN hx hb hts in_X5 hown hK (hW.k6 (t) (N 8 (t) - 1) (by omega) (by omega)) rfl 0 (by decide) q819 rfl (v := .ref (ad 3 (N 9 (10 * t + (N 8 (t) - 1))))) rfl dX1_stop_108 ?_
                    refine h_getN hx hb hts in_X3 hown hK (hW.k3 (N 9 (10 * t + (N 8 (t) - 1))) (by omega)) rfl 0 (by decide) q459 rfl (v := .int (iI (N 9 (10 * t + (N 8 (t) - 1))))) rfl dX1_stop_111 ?_
                    refine lv_iload_n hx hb dX1_stop_114 rfl (lv_at hl 4 rfl) ?_
                    refine ri_icmp_ne (tgt := 120) hx hb (by unfold inR; omega) q_sv dX1_stop_115 (by decide) (fun h19 => ?_) (fun h19 => ?_)
                    · skip
                      exact absurd ⟨by omega, by omega, by omega, by omega, by omega, by first | exact fun q => ‹¬ plB F N t = true› q.2 | exact fun q => absurd q.1 (by omega), by omega⟩ hbad
                    · skip
                      refine lv_iconst (v := iI (-1)) hx hb dX1_stop_118 rfl ?_
                      exact W.iret hx hb hr (fun tt htt hWm => ⟨rfl, htt⟩) (fun _ h => absurd h List.not_mem_nil) dX1_stop_119
                · skip
                  exfalso; omega
            · skip
              refine lv_aload_n hx hb dX1_stop_43 rfl (lv_at hl 1 rfl) ?_
              refine lv_aload hx hb dX1_stop_44 (lv_at hl 0 rfl) ?_
              refine rc_V (W.runV (As := [.ref (ad 4 (t))]) (rest := []) ⟨hx, hb, hml, hown, hts⟩ (cc_X1_isPlanned l D cA A sa ad F N Z E K hKb hF hN hZ hwf t (by omega)) (cwV 1 hts (lw_V q803 q805 qs11 q42 q806) rfl rfl rfl (by decide +kernel) ⟨Nat.le_of_ble_eq_true rfl, Nat.le_of_ble_eq_true rfl⟩) (preVC hK hSX hS hW.c0 rfl hW) rfl rfl hl.1 rfl (lv_room (Nat.le_of_ble_eq_true rfl)) dX1_stop_46 ⟨Nat.le_of_ble_eq_true rfl, Nat.le_of_ble_eq_true rfl⟩) ?_
              by_cases h20 : plB F N t = true
              · refine ri_top (b := 1) (if_pos h20) ?_
                refine ri_if_eq (tgt := 54) hx hb (by unfold inR; omega) dX1_stop_49 (by decide) (fun h21 => ?_) (fun h21 => ?_)
                · skip
                  exfalso; omega
                · skip
                  refine lv_iconst (v := iI (-1)) hx hb dX1_stop_52 rfl ?_
                  exact W.iret hx hb hr (fun tt htt hWm => ⟨rfl, htt⟩) (fun _ h => absurd h List.not_mem_nil) dX1_stop_53
              · refine ri_top (b := 0) (if_neg h20) ?_
                refine ri_if_eq (tgt := 54) hx hb (by unfold inR; omega) dX1_stop_49 (by decide) (fun h22 => ?_) (fun h22 => ?_)
                · skip
                  refine lv_aload hx hb dX1_stop_54 (lv_at hl 0 rfl) ?_
                  refine h_getN hx hb hts in_X4 hown hK (hW.k4 (t) (by omega)) rfl 2 (by decide) q533 rfl (v := .ref (ad 1 (10 + t))) rfl dX1_stop_56 ?_
                  obtain ⟨mc23, cp23, cq23, cr23, hLi23⟩ := (hW.lp (t) (by omega))
                  refine rc_V (W.runV (As := []) (rest := []) ⟨hx, hb, hml, hown, hts⟩ (al_isEmpty l D cA (ad 1 (10 + t)) mc23 (ad 2 (10 + t)) (N 8 (t)) (by omega)) (cwV 0 hts (lw_V q811 q671 q672 q45 q673) rfl rfl rfl (by decide +kernel) ⟨Nat.le_of_ble_eq_true rfl, Nat.le_of_ble_eq_true rfl⟩) (preV hK hLi23.1 rfl hLi23.1) rfl rfl hl.1 rfl (lv_room (Nat.le_of_ble_eq_true rfl)) dX1_stop_59 ⟨Nat.le_of_ble_eq_true rfl, Nat.le_of_ble_eq_true rfl⟩) ?_
                  by_cases h24 : N 8 (t) = 0
                  · refine ri_top (b := 1) (if_pos h24) ?_
                    refine ri_if_eq (tgt := 69) hx hb (by unfold inR; omega) dX1_stop_62 (by decide) (fun h25 => ?_) (fun h25 => ?_)
                    · skip
                      exfalso; omega
                    · skip
                      refine lv_null hx hb dX1_stop_65 ?_
                      refine lv_goto (tgt := 90) hx hb dX1_stop_66 (by decide) ?_
                      refine lv_astoreN (lv' := [(5, .null), (4, .ref (ad 4 (t))), (0, .ref (ad 0 (0))), (1, .int (iI (t))), (2, .int (iI (sv))), (3, .int (iI (mi)))]) hx hb dX1_stop_90 hl (by decide) rfl (fun ls hl => ?_)
                      refine lv_aloadN hx hb dX1_stop_92 (lv_at hl 0 rfl) ?_
                      refine lv_ifnullN (tgt := 120) hx hb dX1_stop_94 (by decide) ?_
                      exact absurd ⟨by omega, by omega, by omega, by omega, by omega, by first | exact fun q => ‹¬ plB F N t = true› q.2 | exact fun q => absurd q.1 (by omega), by omega⟩ hbad
                  · refine ri_top (b := 0) (if_neg h24) ?_
                    refine ri_if_eq (tgt := 69) hx hb (by unfold inR; omega) dX1_stop_62 (by decide) (fun h26 => ?_) (fun h26 => ?_)
                    · skip
                      refine lv_aload hx hb dX1_stop_69 (lv_at hl 0 rfl) ?_
                      refine h_getN hx hb hts in_X4 hown hK (hW.k4 (t) (by omega)) rfl 2 (by decide) q533 rfl (v := .ref (ad 1 (10 + t))) rfl dX1_stop_71 ?_
                      refine lv_aload hx hb dX1_stop_74 (lv_at hl 0 rfl) ?_
                      refine h_getN hx hb hts in_X4 hown hK (hW.k4 (t) (by omega)) rfl 2 (by decide) q533 rfl (v := .ref (ad 1 (10 + t))) rfl dX1_stop_76 ?_
                      obtain ⟨mc27, cp27, cq27, cr27, hLi27⟩ := (hW.lp (t) (by omega))
                      refine rc_V (W.runV (As := []) (rest := [.ref (ad 1 (10 + t))]) ⟨hx, hb, hml, hown, hts⟩ (al_size l D cA (ad 1 (10 + t)) mc27 (ad 2 (10 + t)) (N 8 (t))) (cwV 0 hts (lw_V q448 q449 q450 q45 q451) rfl rfl rfl (by decide +kernel) ⟨Nat.le_of_ble_eq_true rfl, Nat.le_of_ble_eq_true rfl⟩) (preV hK hLi27.1 rfl hLi27.1) rfl rfl hl.1 rfl (lv_room (Nat.le_of_ble_eq_true rfl)) dX1_stop_79 ⟨Nat.le_of_ble_eq_true rfl, Nat.le_of_ble_eq_true rfl⟩) ?_
                      refine lv_iconst (v := iI (1)) hx hb dX1_stop_82 rfl ?_
                      refine ri_isub hx hb dX1_stop_83 ?_
                      obtain ⟨mc28, cp28, cq28, cr28, hLi28⟩ := (hW.lp (t) (by omega))
                      refine ri_top (b := ((N 8 (t) - 1 : Nat) : Int)) (by omega) ?_
                      refine rc_V (W.runV (As := [.int (iI ((N 8 (t) - 1 : Nat)))]) (rest := []) ⟨hx, hb, hml, hown, hts⟩ (al_get l D cA (ad 1 (10 + t)) mc28 (ad 2 (10 + t)) (N 8 (t)) cp28 (fun j => ad 6 (10 * t + j)) (N 8 (t) - 1) (by omega)) (cwV 1 hts (lw_V q565 q566 q567 q45 q568) rfl rfl rfl (by decide +kernel) ⟨Nat.le_of_ble_eq_true rfl, Nat.le_of_ble_eq_true rfl⟩) (preV hK hLi28.1 rfl hLi28) rfl rfl hl.1 rfl (lv_room (Nat.le_of_ble_eq_true rfl)) dX1_stop_84 ⟨Nat.le_of_ble_eq_true rfl, Nat.le_of_ble_eq_true rfl⟩) ?_
                      refine h_cast (ci := 4) (q := (RX5, TX5, 2)) hx hb hown (hts _ q699) hK rfl (isO.of (hW.k6 (t) (N 8 (t) - 1) (by omega) (by omega))) dX1_stop_87 ?_
                      refine lv_astore (lv' := [(5, .ref (ad 6 (10 * t + (N 8 (t) - 1)))), (4, .ref (ad 4 (t))), (0, .ref (ad 0 (0))), (1, .int (iI (t))), (2, .int (iI (sv))), (3, .int (iI (mi)))]) hx hb dX1_stop_90 hl (by decide) rfl (fun ls hl => ?_)
                      refine lv_aload hx hb dX1_stop_92 (lv_at hl 0 rfl) ?_
                      refine lv_ifnull hx hb dX1_stop_94 ?_
                      refine lv_aload hx hb dX1_stop_97 (lv_at hl 0 rfl) ?_
                      have b29 : N 10 (10 * t + (N 8 (t) - 1)) ≤ 1439 := hN 10 _
                      refine h_getN hx hb hts in_X5 hown hK (hW.k6 (t) (N 8 (t) - 1) (by omega) (by omega)) rfl 1 (by decide) q821 rfl (v := .int (iI (N 10 (10 * t + (N 8 (t) - 1))))) rfl dX1_stop_99 ?_
                      refine lv_iload_n hx hb dX1_stop_102 rfl (lv_at hl 5 rfl) ?_
                      refine ri_icmp_ge (tgt := 118) hx hb (by unfold inR; omega) q_mi dX1_stop_103 (by decide) (fun h30 => ?_) (fun h30 => ?_)
                      · skip
                        refine lv_iconst (v := iI (-1)) hx hb dX1_stop_118 rfl ?_
                        exact W.iret hx hb hr (fun tt htt hWm => ⟨rfl, htt⟩) (fun _ h => absurd h List.not_mem_nil) dX1_stop_119
                      · skip
                        refine lv_aload hx hb dX1_stop_106 (lv_at hl 0 rfl) ?_
                        have b31 : N 9 (10 * t + (N 8 (t) - 1)) < F 2 := hwf.1 _ _ (by omega) (by omega)
                        refine h_getN hx hb hts in_X5 hown hK (hW.k6 (t) (N 8 (t) - 1) (by omega) (by omega)) rfl 0 (by decide) q819 rfl (v := .ref (ad 3 (N 9 (10 * t + (N 8 (t) - 1))))) rfl dX1_stop_108 ?_
                        refine h_getN hx hb hts in_X3 hown hK (hW.k3 (N 9 (10 * t + (N 8 (t) - 1))) (by omega)) rfl 0 (by decide) q459 rfl (v := .int (iI (N 9 (10 * t + (N 8 (t) - 1))))) rfl dX1_stop_111 ?_
                        refine lv_iload_n hx hb dX1_stop_114 rfl (lv_at hl 4 rfl) ?_
                        refine ri_icmp_ne (tgt := 120) hx hb (by unfold inR; omega) q_sv dX1_stop_115 (by decide) (fun h32 => ?_) (fun h32 => ?_)
                        · skip
                          exact absurd ⟨by omega, by omega, by omega, by omega, by omega, by first | exact fun q => ‹¬ plB F N t = true› q.2 | exact fun q => absurd q.1 (by omega), by omega⟩ hbad
                        · skip
                          refine lv_iconst (v := iI (-1)) hx hb dX1_stop_118 rfl ?_
                          exact W.iret hx hb hr (fun tt htt hWm => ⟨rfl, htt⟩) (fun _ h => absurd h List.not_mem_nil) dX1_stop_119
                    · skip
                      exfalso; omega
                · skip
                  exfalso; omega
        · refine ri_top (b := 0) (if_neg h6) ?_
          refine ri_if_eq (tgt := 52) hx hb (by unfold inR; omega) dX1_stop_32 (by decide) (fun h33 => ?_) (fun h33 => ?_)
          · skip
            refine lv_iconst (v := iI (-1)) hx hb dX1_stop_52 rfl ?_
            exact W.iret hx hb hr (fun tt htt hWm => ⟨rfl, htt⟩) (fun _ h => absurd h List.not_mem_nil) dX1_stop_53
          · skip
            exfalso; omega
    · refine ri_top (b := 0) (if_neg h4) ?_
      refine ri_if_eq (tgt := 52) hx hb (by unfold inR; omega) dX1_stop_25 (by decide) (fun h34 => ?_) (fun h34 => ?_)
      · skip
        refine lv_iconst (v := iI (-1)) hx hb dX1_stop_52 rfl ?_
        exact W.iret hx hb hr (fun tt htt hWm => ⟨rfl, htt⟩) (fun _ h => absurd h List.not_mem_nil) dX1_stop_53
      · skip
        exfalso; omega

set_option maxHeartbeats 4000000 in
set_option maxRecDepth 100000 in
theorem cc_X1_box (l : Launch) (D : va_G) (cA : Nat → ClassId) (A : Nat → Prop) (sa : Nat → Nat) (ad : Nat → Nat → Nat) (F : Nat → Nat) (N : Nat → Nat → Nat) (Z : Nat → Int) (E : Nat → Nat → Int) (K : Nat) (hKb : K ≤ 1000000) (hF : FB F) (hN : NB N) (hZ : ZB K Z) (hwf : WF F N) (hm wk rd dk wt du : Nat) (b1 : hm < F 2) (b2 : wk ≤ 120) (b3 : rd ≤ 1439) (b4 : dk < F 2) (b5 : wt ≤ 120) (b6 : du ≤ 1439) (b7 : F 4 ≠ 60) (h21 : N 21 (F 4) = 0) (h24 : N 24 (2 * F 4) = 0) (h25 : N 25 (2 * F 4) = 0) (h26 : N 26 (2 * F 4) = 0) : Met l yX1_box (ws_ yX1_box cX1_box 8 (some .int)) ({ frames := 7, cells := 5, slots := 420, locals := 211 }) (PC D cA A sa ad F N Z E [.ref (ad 0 (0)), .int (iI (hm)), .int (iI (wk)), .int (iI (rd)), .int (iI (dk)), .int (iI (wt)), .int (iI (du))]) (Qi (fun z H' => z = (F 4 : Nat) ∧ ∃ ad', ad' 0 0 = ad 0 0 ∧ CW D cA A sa ad' (va_up (F) 4 (F 4 + 1)) (boxN N (F 4) hm wk rd dk wt du) Z E H') A) 5 420 (A) := by
  refine Met.ofW (cc := cX1_box) (maxL := 8) (ret := (some .int)) (by decide) rfl ?_
  intro p e s m args below meth c s₁ B hml hv
  obtain ⟨rfl, hK, hW⟩ := hv
  have hx := B.exec
  have hb := B.bytes
  have hr := B.returns
  have hts := atoms_spec (ws := ws_ yX1_box cX1_box 8 (some .int)) B.pre
  have hts : ∀ w ∈ lw_all, w.before _ s = true := fun w h => hts w (List.mem_cons_of_mem _ h)
  have hown : s.vm.findClass RX1 = some m.cls := findClass_of_methodNamed B.named
  have hlocks := B.notSynchronized
  have hl := lv_entry ([.ref (ad 0 (0)), .int (iI (hm)), .int (iI (wk)), .int (iI (rd)), .int (iI (dk)), .int (iI (wt)), .int (iI (du))]) (n := 8) (Nat.le_of_ble_eq_true rfl)
  rw [lg_entry_eq]
  generalize (lg_sl ([.ref (ad 0 (0)), .int (iI (hm)), .int (iI (wk)), .int (iI (rd)), .int (iI (dk)), .int (iI (wt)), .int (iI (du))]) ++ List.replicate (8 - (lg_sl ([.ref (ad 0 (0)), .int (iI (hm)), .int (iI (wk)), .int (iI (rd)), .int (iI (dk)), .int (iI (wt)), .int (iI (du))])).length) Slot.unset).toArray = ls at hl ⊢
  have hl : lv_has ls 8 [(0, .ref (ad 0 (0))), (1, .int (iI (hm))), (2, .int (iI (wk))), (3, .int (iI (rd))), (4, .int (iI (dk))), (5, .int (iI (wt))), (6, .int (iI (du)))] := hl
  obtain ⟨hSX, hW⟩ := hW
  have hS : va_S A s.heap s.heap [] := va_S.rf
  have hF2 : F 2 ≤ 10 := hF 2
  have hF3 : F 3 ≤ 16 := hF 3
  have hF4 : F 4 ≤ 60 := hF 4
  have hF5 : F 5 ≤ 40 := hF 5
  have hF1 : F 1 ≤ 1439 := hF 1
  refine lv_aload_n hx hb dX1_box_0 rfl (lv_at hl 0 rfl) ?_
  refine lv_iload_n hx hb dX1_box_1 rfl (lv_at hl 1 rfl) ?_
  refine rc_V (W.runV (As := [.int (iI (hm))]) (rest := []) ⟨hx, hb, hml, hown, hts⟩ (cc_X1_isStation l D cA A sa ad F N Z E K hKb hF hN hZ hwf hm (by unfold inR; omega)) (cwV 1 hts (lw_V q556 q558 qs4 q42 q559) rfl rfl rfl (by decide +kernel) ⟨Nat.le_of_ble_eq_true rfl, Nat.le_of_ble_eq_true rfl⟩) (preVC hK hSX hS hW.c0 rfl hW) rfl rfl hl.1 rfl (lv_room (Nat.le_of_ble_eq_true rfl)) dX1_box_2 ⟨Nat.le_of_ble_eq_true rfl, Nat.le_of_ble_eq_true rfl⟩) ?_
  refine ri_top (b := 1) (if_pos (show 0 ≤ (hm : Int) ∧ (hm : Int) < (F 2 : Nat) from by omega)) ?_
  refine ri_if_eq (tgt := 58) hx hb (by unfold inR; omega) dX1_box_5 (by decide) (fun h2 => ?_) (fun h2 => ?_)
  · skip
    exfalso; omega
  · skip
    refine lv_aload_n hx hb dX1_box_8 rfl (lv_at hl 0 rfl) ?_
    refine lv_iload hx hb dX1_box_9 (lv_at hl 4 rfl) ?_
    refine rc_V (W.runV (As := [.int (iI (dk))]) (rest := []) ⟨hx, hb, hml, hown, hts⟩ (cc_X1_isStation l D cA A sa ad F N Z E K hKb hF hN hZ hwf dk (by unfold inR; omega)) (cwV 1 hts (lw_V q556 q558 qs4 q42 q559) rfl rfl rfl (by decide +kernel) ⟨Nat.le_of_ble_eq_true rfl, Nat.le_of_ble_eq_true rfl⟩) (preVC hK hSX hS hW.c0 rfl hW) rfl rfl hl.1 rfl (lv_room (Nat.le_of_ble_eq_true rfl)) dX1_box_11 ⟨Nat.le_of_ble_eq_true rfl, Nat.le_of_ble_eq_true rfl⟩) ?_
    refine ri_top (b := 1) (if_pos (show 0 ≤ (dk : Int) ∧ (dk : Int) < (F 2 : Nat) from by omega)) ?_
    refine ri_if_eq (tgt := 58) hx hb (by unfold inR; omega) dX1_box_14 (by decide) (fun h4 => ?_) (fun h4 => ?_)
    · skip
      exfalso; omega
    · skip
      refine lv_iload_n hx hb dX1_box_17 rfl (lv_at hl 2 rfl) ?_
      refine ri_if_lt (tgt := 58) hx hb (by unfold inR; omega) dX1_box_18 (by decide) (fun h5 => ?_) (fun h5 => ?_)
      · skip
        exfalso; omega
      · skip
        refine lv_iload_n hx hb dX1_box_21 rfl (lv_at hl 2 rfl) ?_
        refine lv_bipush (v := iI (120)) hx hb dX1_box_22 (by decide) ?_
        refine ri_icmp_gt (tgt := 58) hx hb (by unfold inR; omega) (by unfold inR; omega) dX1_box_24 (by decide) (fun h6 => ?_) (fun h6 => ?_)
        · skip
          exfalso; omega
        · skip
          refine lv_iload hx hb dX1_box_27 (lv_at hl 5 rfl) ?_
          refine ri_if_lt (tgt := 58) hx hb (by unfold inR; omega) dX1_box_29 (by decide) (fun h7 => ?_) (fun h7 => ?_)
          · skip
            exfalso; omega
          · skip
            refine lv_iload hx hb dX1_box_32 (lv_at hl 5 rfl) ?_
            refine lv_bipush (v := iI (120)) hx hb dX1_box_34 (by decide) ?_
            refine ri_icmp_gt (tgt := 58) hx hb (by unfold inR; omega) (by unfold inR; omega) dX1_box_36 (by decide) (fun h8 => ?_) (fun h8 => ?_)
            · skip
              exfalso; omega
            · skip
              refine lv_iload_n hx hb dX1_box_39 rfl (lv_at hl 3 rfl) ?_
              refine rc_V (W.runS (As := [.int (iI (rd))]) (rest := []) ⟨hx, hb, hml, hown, hts⟩ (cc_X1_isMinute l D cA rd (by unfold inR; omega)) (va_cwS 1 hts (lw_S q560 q561 q42 q562) rfl rfl rfl (by decide +kernel) ⟨Nat.le_of_ble_eq_true rfl, Nat.le_of_ble_eq_true rfl⟩) (preS hK (B := fun _ => True) trivial) rfl rfl hl.1 rfl (lv_room (Nat.le_of_ble_eq_true rfl)) dX1_box_40 ⟨Nat.le_of_ble_eq_true rfl, Nat.le_of_ble_eq_true rfl⟩) ?_
              refine ri_top (b := 1) (if_pos (show 0 ≤ (rd : Int) ∧ (rd : Int) ≤ 1439 from by omega)) ?_
              refine ri_if_eq (tgt := 58) hx hb (by unfold inR; omega) dX1_box_43 (by decide) (fun h10 => ?_) (fun h10 => ?_)
              · skip
                exfalso; omega
              · skip
                refine lv_iload hx hb dX1_box_46 (lv_at hl 6 rfl) ?_
                refine rc_V (W.runS (As := [.int (iI (du))]) (rest := []) ⟨hx, hb, hml, hown, hts⟩ (cc_X1_isMinute l D cA du (by unfold inR; omega)) (va_cwS 1 hts (lw_S q560 q561 q42 q562) rfl rfl rfl (by decide +kernel) ⟨Nat.le_of_ble_eq_true rfl, Nat.le_of_ble_eq_true rfl⟩) (preS hK (B := fun _ => True) trivial) rfl rfl hl.1 rfl (lv_room (Nat.le_of_ble_eq_true rfl)) dX1_box_48 ⟨Nat.le_of_ble_eq_true rfl, Nat.le_of_ble_eq_true rfl⟩) ?_
                refine ri_top (b := 1) (if_pos (show 0 ≤ (du : Int) ∧ (du : Int) ≤ 1439 from by omega)) ?_
                refine ri_if_eq (tgt := 58) hx hb (by unfold inR; omega) dX1_box_51 (by decide) (fun h12 => ?_) (fun h12 => ?_)
                · skip
                  exfalso; omega
                · skip
                  refine lv_iconst (v := iI (1)) hx hb dX1_box_54 rfl ?_
                  refine lv_goto (tgt := 59) hx hb dX1_box_55 (by decide) ?_
                  refine lv_istore (lv' := [(7, .int (iI (1))), (0, .ref (ad 0 (0))), (1, .int (iI (hm))), (2, .int (iI (wk))), (3, .int (iI (rd))), (4, .int (iI (dk))), (5, .int (iI (wt))), (6, .int (iI (du)))]) hx hb dX1_box_59 hl (by decide) rfl (fun ls hl => ?_)
                  refine lv_iload hx hb dX1_box_61 (lv_at hl 0 rfl) ?_
                  refine ri_if_eq (tgt := 78) hx hb (by unfold inR; omega) dX1_box_63 (by decide) (fun h13 => ?_) (fun h13 => ?_)
                  · skip
                    exfalso; omega
                  · skip
                    refine lv_aload_n hx hb dX1_box_66 rfl (lv_at hl 1 rfl) ?_
                    refine h_get hx hb hts in_X1 hown hK hW.c0 rfl 2 (by decide) (hts _ q423) rfl (v := .ref (ad 1 (2))) rfl dX1_box_67 ?_
                    obtain ⟨mc14, cp14, cq14, cr14, hLi14⟩ := hW.l2
                    refine rc_V (W.runV (As := []) (rest := []) ⟨hx, hb, hml, hown, hts⟩ (al_size l D cA (ad 1 (2)) mc14 (ad 2 (2)) (F 4)) (cwV 0 hts (lw_V q448 q449 q450 q45 q451) rfl rfl rfl (by decide +kernel) ⟨Nat.le_of_ble_eq_true rfl, Nat.le_of_ble_eq_true rfl⟩) (preV hK hLi14.1 rfl hLi14.1) rfl rfl hl.1 rfl (lv_room (Nat.le_of_ble_eq_true rfl)) dX1_box_70 ⟨Nat.le_of_ble_eq_true rfl, Nat.le_of_ble_eq_true rfl⟩) ?_
                    refine lv_bipush (v := iI (60)) hx hb dX1_box_73 (by decide) ?_
                    refine ri_icmp_ne (tgt := 80) hx hb (by unfold inR; omega) (by unfold inR; omega) dX1_box_75 (by decide) (fun h15 => ?_) (fun h15 => ?_)
                    · skip
                      refine lv_aload_n hx hb dX1_box_80 rfl (lv_at hl 1 rfl) ?_
                      refine h_get hx hb hts in_X1 hown hK hW.c0 rfl 2 (by decide) (hts _ q423) rfl (v := .ref (ad 1 (2))) rfl dX1_box_81 ?_
                      have hlt84 := hW.lt hF3 hN
                      have hgr84 := hW.2.2.2
                      refine h_new hx hb hts in_X6 tyX6 tyX6_ok hown (hts _ q563) (hts _ q564) (hts _ q68) hK hS (ci := 5) rfl (fs := [.null, .null, .null, .int (iI (0)), .int (iI (0)), .null]) (fun j hj => by match j, hj with | 0, _ => rfl | 1, _ => rfl | 2, _ => rfl | 3, _ => rfl | 4, _ => rfl | 5, _ => rfl) (Nat.le_of_ble_eq_true rfl) (Nat.le_of_ble_eq_true rfl) dX1_box_84 (fun z H hq84 hXz o1 z1 hS => ?_)
                      have hAz : A z := hgr84 _ (by omega)
                      have hW := hW.keptL hF3 hN (by omega) (fun k i hl => o1 _ (hlt84 k i hl))
                      refine lv_dup hx hb dX1_box_87 rfl ?_
                      refine lv_aload_n hx hb dX1_box_88 rfl (lv_at hl 1 rfl) ?_
                      refine h_get hx hb hts in_X1 hown hK hW.c0 rfl 0 (by decide) (hts _ q421) rfl (v := .ref (ad 1 (0))) rfl dX1_box_89 ?_
                      refine lv_iload_n hx hb dX1_box_92 rfl (lv_at hl 2 rfl) ?_
                      obtain ⟨mc16, cp16, cq16, cr16, hLi16⟩ := hW.l0
                      refine rc_V (W.runV (As := [.int (iI (hm))]) (rest := [.ref z, .ref z, .ref (ad 1 (2))]) ⟨hx, hb, hml, hown, hts⟩ (al_get l D cA (ad 1 (0)) mc16 (ad 2 (0)) (F 2) cp16 (ad 3) (hm) (by omega)) (cwV 1 hts (lw_V q565 q566 q567 q45 q568) rfl rfl rfl (by decide +kernel) ⟨Nat.le_of_ble_eq_true rfl, Nat.le_of_ble_eq_true rfl⟩) (preV hK hLi16.1 rfl hLi16) rfl rfl hl.1 rfl (lv_room (Nat.le_of_ble_eq_true rfl)) dX1_box_93 ⟨Nat.le_of_ble_eq_true rfl, Nat.le_of_ble_eq_true rfl⟩) ?_
                      refine h_cast (ci := 2) (q := (RX3, TX3, 2)) hx hb hown (hts _ q452) hK rfl (isO.of (hW.k3 (hm) (by omega))) dX1_box_96 ?_
                      refine lv_iload_n hx hb dX1_box_99 rfl (lv_at hl 3 rfl) ?_
                      refine lv_iload_n hx hb dX1_box_100 rfl (lv_at hl 4 rfl) ?_
                      refine lv_aload_n hx hb dX1_box_101 rfl (lv_at hl 1 rfl) ?_
                      refine h_get hx hb hts in_X1 hown hK hW.c0 rfl 0 (by decide) (hts _ q421) rfl (v := .ref (ad 1 (0))) rfl dX1_box_102 ?_
                      refine lv_iload hx hb dX1_box_105 (lv_at hl 5 rfl) ?_
                      obtain ⟨mc17, cp17, cq17, cr17, hLi17⟩ := hW.l0
                      refine rc_V (W.runV (As := [.int (iI (dk))]) (rest := [.int (iI (rd)), .int (iI (wk)), .ref (ad 3 (hm)), .ref z, .ref z, .ref (ad 1 (2))]) ⟨hx, hb, hml, hown, hts⟩ (al_get l D cA (ad 1 (0)) mc17 (ad 2 (0)) (F 2) cp17 (ad 3) (dk) (by omega)) (cwV 1 hts (lw_V q565 q566 q567 q45 q568) rfl rfl rfl (by decide +kernel) ⟨Nat.le_of_ble_eq_true rfl, Nat.le_of_ble_eq_true rfl⟩) (preV hK hLi17.1 rfl hLi17) rfl rfl hl.1 rfl (lv_room (Nat.le_of_ble_eq_true rfl)) dX1_box_107 ⟨Nat.le_of_ble_eq_true rfl, Nat.le_of_ble_eq_true rfl⟩) ?_
                      refine h_cast (ci := 2) (q := (RX3, TX3, 2)) hx hb hown (hts _ q452) hK rfl (isO.of (hW.k3 (dk) (by omega))) dX1_box_110 ?_
                      refine lv_iload hx hb dX1_box_113 (lv_at hl 6 rfl) ?_
                      refine lv_iload hx hb dX1_box_115 (lv_at hl 7 rfl) ?_
                      have hzl0 := hXz.lt
                      have hst := hW.k3 hm (by omega)
                      have hn6 : N 6 hm ≤ 60 := hN 6 hm
                      refine rc_N (W.runI (As := [.ref (ad 3 (hm)), .int (iI (wk)), .int (iI (rd)), .ref (ad 3 (dk)), .int (iI (wt)), .int (iI (du))]) (rest := [.ref z, .ref (ad 1 (2))]) ⟨hx, hb, hml, hown, hts⟩ (cc_X6_init l D cA A sa z H.size (ad 3 hm) wk rd (ad 3 dk) wt du hm (N 6 hm) (fun q h => by rcases h with h | h; rw [h]; exact hAz; exact hgr84 _ (by omega)) (by omega) (by omega) (by omega)) (cwI 6 hts (lw_meth q581) rfl rfl rfl (hts _ q68) (hts _ q579) (hts _ q580) rfl (by decide +kernel) ⟨Nat.le_of_ble_eq_true rfl, Nat.le_of_ble_eq_true rfl⟩) ⟨Pq.blind (fun U g mk a h => ⟨h.1.blind, h.2⟩), fun U hU hWm => ⟨rfl, hK.moved hWm, hSX.call hS hU hWm.alike, by rw [hU]; exact hXz, by rw [hU]; exact hst, by rw [hU]⟩⟩ rfl rfl hl.1 rfl (lv_room (Nat.le_of_ble_eq_true rfl)) dX1_box_117 ⟨Nat.le_of_ble_eq_true rfl, Nat.le_of_ble_eq_true rfl⟩) hS (fun q _ h => by rcases h with h | h; rw [h]; exact hAz; exact hgr84 _ (by omega)) (fun q h => by rcases h with h | h; rw [h]; exact hAz; exact hgr84 _ (by omega)) (fun H locs hq hS hz hk => ?_)
                      obtain ⟨q2, q1, e1, g3, g1, g2, g5, g6, g4, hLt, hLo, hXz⟩ := hq
                      have hW := hW.keptL hF3 hN hz (fun k i hl => hk _ (by have := hlt84 k i hl; omega) (by have := hlt84 k i hl; omega))
                      obtain ⟨mc18, cp18, cq18, cr18, hLi18⟩ := hW.l2
                      refine rc_I (W.runV (As := [.ref z]) (rest := []) ⟨hx, hb, hml, hown, hts⟩ (al_add l D cA (ad 1 (2)) mc18 (ad 2 (2)) H.size (F 4) cp18 z 5 (ad 7) cq18 (by omega) (by decide) (by have := hlt84 1 _ (lv_l0 2 (by omega)); omega)) (cwV 1 hts (lw_V q468 q469 q470 q45 q471) rfl rfl rfl (by decide +kernel) ⟨Nat.le_of_ble_eq_true rfl, Nat.le_of_ble_eq_true rfl⟩) (preV hK hLi18.1 rfl ⟨hLi18, rfl, (fun j hj => ⟨5, by decide, isO.of (hW.k7 j hj)⟩), (isO.of hXz), (by have := hlt84 2 _ (lv_e0 2 (by omega)); omega), (fun j hj => hW.ne (k := 7) hj (lv_l0 2 (by omega)) (Or.inl (by decide)))⟩) rfl rfl hl.1 rfl (lv_room (Nat.le_of_ble_eq_true rfl)) dX1_box_120 ⟨Nat.le_of_ble_eq_true rfl, Nat.le_of_ble_eq_true rfl⟩) hS (fun q _ h => by rcases h with h | h | h; rw [h]; exact hW.hA 1 _ (lv_l0 2 (by omega)); rw [h]; exact hW.hA 2 _ (lv_e0 2 (by omega)); exact hW.2.2.2 q h) (fun q  h => by rcases h with h | h | h; rw [h]; exact hW.hA 1 _ (lv_l0 2 (by omega)); rw [h]; exact hW.hA 2 _ (lv_e0 2 (by omega)); exact hW.2.2.2 q h) (fun zr H locs hq hS hz hk => ?_)
                      obtain ⟨rfl, ez, hLz, hor⟩ := hq
                      have hcap := nxC_le (cap := cp18) (sz := F 4) cq18 cr18 (by omega)
                      have hzl := hXz.lt
                      have hl1 := hlt84 1 _ (lv_l0 2 (by omega))
                      have hl2 := hlt84 2 _ (lv_e0 2 (by omega))
                      have lq1 := hLt.1.lt
                      have le1 := hLt.2.1.lt
                      have lq2 := hLo.lt
                      have hXz := hXz.kept (hk _ hzl (by omega))
                      have hLt := hLt.kept (hk _ lq1 (by omega)) (hk _ le1 (by omega))
                      have hLo := hLo.kept (hk _ lq2 (by omega))
                      have f1 : (up2 (up2 (up2 (up2 (up2 ad 7 (F 4) z) 8 (2 * F 4) q2) 1 (100 + 2 * F 4) q1) 2 (100 + 2 * F 4) e1) 2 2 ez) 2 2 = ez := up2_eq _ _ _ _
                      have f2 : (up2 (up2 (up2 (up2 (up2 ad 7 (F 4) z) 8 (2 * F 4) q2) 1 (100 + 2 * F 4) q1) 2 (100 + 2 * F 4) e1) 2 2 ez) 2 (100 + 2 * F 4) = e1 := by rw [up2_ne (Or.inr (by omega)), up2_eq]
                      have f3 : (up2 (up2 (up2 (up2 (up2 ad 7 (F 4) z) 8 (2 * F 4) q2) 1 (100 + 2 * F 4) q1) 2 (100 + 2 * F 4) e1) 2 2 ez) 1 (100 + 2 * F 4) = q1 := by rw [up2_ne (Or.inl (by decide)), up2_ne (Or.inl (by decide)), up2_eq]
                      have f4 : (up2 (up2 (up2 (up2 (up2 ad 7 (F 4) z) 8 (2 * F 4) q2) 1 (100 + 2 * F 4) q1) 2 (100 + 2 * F 4) e1) 2 2 ez) 8 (2 * F 4) = q2 := by rw [up2_ne (Or.inl (by decide)), up2_ne (Or.inl (by decide)), up2_ne (Or.inl (by decide)), up2_eq]
                      have f5 : (up2 (up2 (up2 (up2 (up2 ad 7 (F 4) z) 8 (2 * F 4) q2) 1 (100 + 2 * F 4) q1) 2 (100 + 2 * F 4) e1) 2 2 ez) 7 (F 4) = z := by rw [up2_ne (Or.inl (by decide)), up2_ne (Or.inl (by decide)), up2_ne (Or.inl (by decide)), up2_ne (Or.inl (by decide)), up2_eq]
                      have hez : ez ≠ z ∧ ez ≠ q1 ∧ ez ≠ q2 ∧ ez ≠ e1 := by omega
                      have tlx : ∀ w, TL (va_up F 4 (F 4 + 1)) (boxN N (F 4) hm wk rd dk wt du) w → w = 2 * F 4 ∨ TL F N w := fun w hw => by
                        have h1 : w / 2 < F 4 + 1 := hw.1
                        have h2 : w % 2 = 0 ∨ N 21 (w / 2) ≠ 0 := hw.2
                        by_cases e : w / 2 = F 4
                        · rw [e] at h2; exact Or.inl (by omega)
                        · exact Or.inr ⟨by omega, h2⟩
                      have hW := hW.addB (ad' := up2 (up2 (up2 (up2 (up2 ad 7 (F 4) z) 8 (2 * F 4) q2) 1 (100 + 2 * F 4) q1) 2 (100 + 2 * F 4) e1) 2 2 ez) (n0 := z) (hm := hm) (wk := wk) (rd := rd) (dk := dk) (wt := wt) (du := du) hF3 hN hwf h21 h24 h25 h26 (by omega) (by omega) tlx ⟨_, _, hcap.1, hcap.2, by rw [f1, f5]; exact hLz⟩ (by rw [f5, f4]; exact hXz) (by rw [f4, f3]; exact hLo) (by rw [f3, f2]; exact hLt) (fun k i hl => by have := hlt84 k i hl; omega) (fun q h => hgr84 q (by omega)) (fun k i hn => by rcases hn with ⟨rfl, rfl⟩ | ⟨rfl, rfl⟩ | ⟨rfl, rfl⟩ | ⟨rfl, rfl⟩ | ⟨rfl, rfl⟩ <;> simp only [f1, f2, f3, f4, f5] <;> first | exact Or.inl (by omega) | (rcases hor with h | h <;> first | exact Or.inl (by omega) | exact Or.inr ⟨trivial, trivial, h⟩ | exact Or.inr ⟨rfl, rfl, h⟩)) (fun k i k' i' h1 h2 e => by rcases h1 with ⟨rfl, rfl⟩ | ⟨rfl, rfl⟩ | ⟨rfl, rfl⟩ | ⟨rfl, rfl⟩ | ⟨rfl, rfl⟩ <;> rcases h2 with ⟨rfl, rfl⟩ | ⟨rfl, rfl⟩ | ⟨rfl, rfl⟩ | ⟨rfl, rfl⟩ | ⟨rfl, rfl⟩ <;> simp only [f1, f2, f3, f4, f5] at e <;> first | exact ⟨rfl, rfl⟩ | (exfalso; omega)) (fun k i hn => by rw [up2_ne (by omega), up2_ne (by omega), up2_ne (by omega), up2_ne (by omega), up2_ne (by omega)]) (fun q h1 h2 => hk q (by omega) (by omega)) (by omega)
                      have hc09 : (up2 (up2 (up2 (up2 (up2 ad 7 (F 4) z) 8 (2 * F 4) q2) 1 (100 + 2 * F 4) q1) 2 (100 + 2 * F 4) e1) 2 2 ez) 0 0 = ad 0 0 := by rw [up2_ne (Or.inl (by decide)), up2_ne (Or.inl (by decide)), up2_ne (Or.inl (by decide)), up2_ne (Or.inl (by decide)), up2_ne (Or.inl (by decide))]
                      generalize up2 (up2 (up2 (up2 (up2 ad 7 (F 4) z) 8 (2 * F 4) q2) 1 (100 + 2 * F 4) q1) 2 (100 + 2 * F 4) e1) 2 2 ez = adn at hW hc09
                      rw [← hc09] at hl
                      refine lv_pop hx hb dX1_box_123 rfl ?_
                      refine lv_aload_n hx hb dX1_box_124 rfl (lv_at hl 1 rfl) ?_
                      refine h_get hx hb hts in_X1 hown hK hW.c0 rfl 2 (by decide) (hts _ q423) rfl (v := .ref (adn 1 (2))) rfl dX1_box_125 ?_
                      obtain ⟨mc19, cp19, cq19, cr19, hLi19⟩ := hW.l2
                      refine rc_V (W.runV (As := []) (rest := []) ⟨hx, hb, hml, hown, hts⟩ (al_size l D cA (adn 1 (2)) mc19 (adn 2 (2)) ((va_up (F) 4 (F 4 + 1)) 4)) (cwV 0 hts (lw_V q448 q449 q450 q45 q451) rfl rfl rfl (by decide +kernel) ⟨Nat.le_of_ble_eq_true rfl, Nat.le_of_ble_eq_true rfl⟩) (preV hK hLi19.1 rfl hLi19.1) rfl rfl hl.1 rfl (lv_room (Nat.le_of_ble_eq_true rfl)) dX1_box_128 ⟨Nat.le_of_ble_eq_true rfl, Nat.le_of_ble_eq_true rfl⟩) ?_
                      refine ri_top (b := (F 4 + 1 : Nat)) rfl ?_
                      refine lv_iconst (v := iI (1)) hx hb dX1_box_131 rfl ?_
                      refine ri_isub hx hb dX1_box_132 ?_
                      refine ri_top (b := (F 4 : Nat)) (by omega) ?_
                      exact W.iret hx hb hr (fun tt htt hWm => ⟨⟨_, rfl, by rw [htt]; exact ⟨rfl, adn, hc09, hW⟩⟩, hS.F htt⟩) hS.2.2 dX1_box_133
                    · skip
                      exfalso; omega

set_option maxHeartbeats 4000000 in
set_option maxRecDepth 100000 in
theorem cc_X1_box_x (l : Launch) (D : va_G) (cA : Nat → ClassId) (A : Nat → Prop) (sa : Nat → Nat) (ad : Nat → Nat → Nat) (F : Nat → Nat) (N : Nat → Nat → Nat) (Z : Nat → Int) (E : Nat → Nat → Int) (K : Nat) (hKb : K ≤ 1000000) (hF : FB F) (hN : NB N) (hZ : ZB K Z) (hwf : WF F N) (hm : Int) (q_hm : inR hm) (wk : Int) (q_wk : inR wk) (rd : Int) (q_rd : inR rd) (dk : Int) (q_dk : inR dk) (wt : Int) (q_wt : inR wt) (du : Int) (q_du : inR du) (hbad : ¬ okBox F hm wk rd dk wt du) : Met l yX1_box (ws_ yX1_box cX1_box 8 (some .int)) ({ frames := 3, cells := 0, slots := 0, locals := 81 }) (PC D cA A sa ad F N Z E [.ref (ad 0 (0)), .int (iI (hm)), .int (iI (wk)), .int (iI (rd)), .int (iI (dk)), .int (iI (wt)), .int (iI (du))]) (k2_QcV (.int (iI (-1)))) 0 0 (fun _ => False) := by
  refine Met.ofW (cc := cX1_box) (maxL := 8) (ret := (some .int)) (by decide) rfl ?_
  intro p e s m args below meth c s₁ B hml hv
  obtain ⟨rfl, hK, hW⟩ := hv
  have hx := B.exec
  have hb := B.bytes
  have hr := B.returns
  have hts := atoms_spec (ws := ws_ yX1_box cX1_box 8 (some .int)) B.pre
  have hts : ∀ w ∈ lw_all, w.before _ s = true := fun w h => hts w (List.mem_cons_of_mem _ h)
  have hown : s.vm.findClass RX1 = some m.cls := findClass_of_methodNamed B.named
  have hlocks := B.notSynchronized
  have hl := lv_entry ([.ref (ad 0 (0)), .int (iI (hm)), .int (iI (wk)), .int (iI (rd)), .int (iI (dk)), .int (iI (wt)), .int (iI (du))]) (n := 8) (Nat.le_of_ble_eq_true rfl)
  rw [lg_entry_eq]
  generalize (lg_sl ([.ref (ad 0 (0)), .int (iI (hm)), .int (iI (wk)), .int (iI (rd)), .int (iI (dk)), .int (iI (wt)), .int (iI (du))]) ++ List.replicate (8 - (lg_sl ([.ref (ad 0 (0)), .int (iI (hm)), .int (iI (wk)), .int (iI (rd)), .int (iI (dk)), .int (iI (wt)), .int (iI (du))])).length) Slot.unset).toArray = ls at hl ⊢
  have hl : lv_has ls 8 [(0, .ref (ad 0 (0))), (1, .int (iI (hm))), (2, .int (iI (wk))), (3, .int (iI (rd))), (4, .int (iI (dk))), (5, .int (iI (wt))), (6, .int (iI (du)))] := hl
  obtain ⟨hSX, hW⟩ := hW
  have hS : va_S A s.heap s.heap [] := va_S.rf
  have hF2 : F 2 ≤ 10 := hF 2
  have hF3 : F 3 ≤ 16 := hF 3
  have hF4 : F 4 ≤ 60 := hF 4
  have hF5 : F 5 ≤ 40 := hF 5
  have hF1 : F 1 ≤ 1439 := hF 1
  have p_hm := q_hm; unfold inR at p_hm
  have p_wk := q_wk; unfold inR at p_wk
  have p_rd := q_rd; unfold inR at p_rd
  have p_dk := q_dk; unfold inR at p_dk
  have p_wt := q_wt; unfold inR at p_wt
  have p_du := q_du; unfold inR at p_du
  unfold okBox at hbad
  refine lv_aload_n hx hb dX1_box_0 rfl (lv_at hl 0 rfl) ?_
  refine lv_iload_n hx hb dX1_box_1 rfl (lv_at hl 1 rfl) ?_
  refine rc_V (W.runV (As := [.int (iI (hm))]) (rest := []) ⟨hx, hb, hml, hown, hts⟩ (cc_X1_isStation l D cA A sa ad F N Z E K hKb hF hN hZ hwf hm q_hm) (cwV 1 hts (lw_V q556 q558 qs4 q42 q559) rfl rfl rfl (by decide +kernel) ⟨Nat.le_of_ble_eq_true rfl, Nat.le_of_ble_eq_true rfl⟩) (preVC hK hSX hS hW.c0 rfl hW) rfl rfl hl.1 rfl (lv_room (Nat.le_of_ble_eq_true rfl)) dX1_box_2 ⟨Nat.le_of_ble_eq_true rfl, Nat.le_of_ble_eq_true rfl⟩) ?_
  by_cases h1 : 0 ≤ (hm : Int) ∧ (hm : Int) < (F 2 : Nat)
  · refine ri_top (b := 1) (if_pos h1) ?_
    refine ri_if_eq (tgt := 58) hx hb (by unfold inR; omega) dX1_box_5 (by decide) (fun h2 => ?_) (fun h2 => ?_)
    · skip
      exfalso; omega
    · skip
      refine lv_aload_n hx hb dX1_box_8 rfl (lv_at hl 0 rfl) ?_
      refine lv_iload hx hb dX1_box_9 (lv_at hl 4 rfl) ?_
      refine rc_V (W.runV (As := [.int (iI (dk))]) (rest := []) ⟨hx, hb, hml, hown, hts⟩ (cc_X1_isStation l D cA A sa ad F N Z E K hKb hF hN hZ hwf dk q_dk) (cwV 1 hts (lw_V q556 q558 qs4 q42 q559) rfl rfl rfl (by decide +kernel) ⟨Nat.le_of_ble_eq_true rfl, Nat.le_of_ble_eq_true rfl⟩) (preVC hK hSX hS hW.c0 rfl hW) rfl rfl hl.1 rfl (lv_room (Nat.le_of_ble_eq_true rfl)) dX1_box_11 ⟨Nat.le_of_ble_eq_true rfl, Nat.le_of_ble_eq_true rfl⟩) ?_
      by_cases h3 : 0 ≤ (dk : Int) ∧ (dk : Int) < (F 2 : Nat)
      · refine ri_top (b := 1) (if_pos h3) ?_
        refine ri_if_eq (tgt := 58) hx hb (by unfold inR; omega) dX1_box_14 (by decide) (fun h4 => ?_) (fun h4 => ?_)
        · skip
          exfalso; omega
        · skip
          refine lv_iload_n hx hb dX1_box_17 rfl (lv_at hl 2 rfl) ?_
          refine ri_if_lt (tgt := 58) hx hb q_wk dX1_box_18 (by decide) (fun h5 => ?_) (fun h5 => ?_)
          · skip
            refine lv_iconst (v := iI (0)) hx hb dX1_box_58 rfl ?_
            refine lv_istore (lv' := [(7, .int (iI (0))), (0, .ref (ad 0 (0))), (1, .int (iI (hm))), (2, .int (iI (wk))), (3, .int (iI (rd))), (4, .int (iI (dk))), (5, .int (iI (wt))), (6, .int (iI (du)))]) hx hb dX1_box_59 hl (by decide) rfl (fun ls hl => ?_)
            refine lv_iload hx hb dX1_box_61 (lv_at hl 0 rfl) ?_
            refine ri_if_eq (tgt := 78) hx hb (by unfold inR; omega) dX1_box_63 (by decide) (fun h6 => ?_) (fun h6 => ?_)
            · skip
              refine lv_iconst (v := iI (-1)) hx hb dX1_box_78 rfl ?_
              exact W.iret hx hb hr (fun tt htt hWm => ⟨rfl, htt⟩) (fun _ h => absurd h List.not_mem_nil) dX1_box_79
            · skip
              exfalso; omega
          · skip
            refine lv_iload_n hx hb dX1_box_21 rfl (lv_at hl 2 rfl) ?_
            refine lv_bipush (v := iI (120)) hx hb dX1_box_22 (by decide) ?_
            refine ri_icmp_gt (tgt := 58) hx hb q_wk (by unfold inR; omega) dX1_box_24 (by decide) (fun h7 => ?_) (fun h7 => ?_)
            · skip
              refine lv_iconst (v := iI (0)) hx hb dX1_box_58 rfl ?_
              refine lv_istore (lv' := [(7, .int (iI (0))), (0, .ref (ad 0 (0))), (1, .int (iI (hm))), (2, .int (iI (wk))), (3, .int (iI (rd))), (4, .int (iI (dk))), (5, .int (iI (wt))), (6, .int (iI (du)))]) hx hb dX1_box_59 hl (by decide) rfl (fun ls hl => ?_)
              refine lv_iload hx hb dX1_box_61 (lv_at hl 0 rfl) ?_
              refine ri_if_eq (tgt := 78) hx hb (by unfold inR; omega) dX1_box_63 (by decide) (fun h8 => ?_) (fun h8 => ?_)
              · skip
                refine lv_iconst (v := iI (-1)) hx hb dX1_box_78 rfl ?_
                exact W.iret hx hb hr (fun tt htt hWm => ⟨rfl, htt⟩) (fun _ h => absurd h List.not_mem_nil) dX1_box_79
              · skip
                exfalso; omega
            · skip
              refine lv_iload hx hb dX1_box_27 (lv_at hl 5 rfl) ?_
              refine ri_if_lt (tgt := 58) hx hb q_wt dX1_box_29 (by decide) (fun h9 => ?_) (fun h9 => ?_)
              · skip
                refine lv_iconst (v := iI (0)) hx hb dX1_box_58 rfl ?_
                refine lv_istore (lv' := [(7, .int (iI (0))), (0, .ref (ad 0 (0))), (1, .int (iI (hm))), (2, .int (iI (wk))), (3, .int (iI (rd))), (4, .int (iI (dk))), (5, .int (iI (wt))), (6, .int (iI (du)))]) hx hb dX1_box_59 hl (by decide) rfl (fun ls hl => ?_)
                refine lv_iload hx hb dX1_box_61 (lv_at hl 0 rfl) ?_
                refine ri_if_eq (tgt := 78) hx hb (by unfold inR; omega) dX1_box_63 (by decide) (fun h10 => ?_) (fun h10 => ?_)
                · skip
                  refine lv_iconst (v := iI (-1)) hx hb dX1_box_78 rfl ?_
                  exact W.iret hx hb hr (fun tt htt hWm => ⟨rfl, htt⟩) (fun _ h => absurd h List.not_mem_nil) dX1_box_79
                · skip
                  exfalso; omega
              · skip
                refine lv_iload hx hb dX1_box_32 (lv_at hl 5 rfl) ?_
                refine lv_bipush (v := iI (120)) hx hb dX1_box_34 (by decide) ?_
                refine ri_icmp_gt (tgt := 58) hx hb q_wt (by unfold inR; omega) dX1_box_36 (by decide) (fun h11 => ?_) (fun h11 => ?_)
                · skip
                  refine lv_iconst (v := iI (0)) hx hb dX1_box_58 rfl ?_
                  refine lv_istore (lv' := [(7, .int (iI (0))), (0, .ref (ad 0 (0))), (1, .int (iI (hm))), (2, .int (iI (wk))), (3, .int (iI (rd))), (4, .int (iI (dk))), (5, .int (iI (wt))), (6, .int (iI (du)))]) hx hb dX1_box_59 hl (by decide) rfl (fun ls hl => ?_)
                  refine lv_iload hx hb dX1_box_61 (lv_at hl 0 rfl) ?_
                  refine ri_if_eq (tgt := 78) hx hb (by unfold inR; omega) dX1_box_63 (by decide) (fun h12 => ?_) (fun h12 => ?_)
                  · skip
                    refine lv_iconst (v := iI (-1)) hx hb dX1_box_78 rfl ?_
                    exact W.iret hx hb hr (fun tt htt hWm => ⟨rfl, htt⟩) (fun _ h => absurd h List.not_mem_nil) dX1_box_79
                  · skip
                    exfalso; omega
                · skip
                  refine lv_iload_n hx hb dX1_box_39 rfl (lv_at hl 3 rfl) ?_
                  refine rc_V (W.runS (As := [.int (iI (rd))]) (rest := []) ⟨hx, hb, hml, hown, hts⟩ (cc_X1_isMinute l D cA rd q_rd) (va_cwS 1 hts (lw_S q560 q561 q42 q562) rfl rfl rfl (by decide +kernel) ⟨Nat.le_of_ble_eq_true rfl, Nat.le_of_ble_eq_true rfl⟩) (preS hK (B := fun _ => True) trivial) rfl rfl hl.1 rfl (lv_room (Nat.le_of_ble_eq_true rfl)) dX1_box_40 ⟨Nat.le_of_ble_eq_true rfl, Nat.le_of_ble_eq_true rfl⟩) ?_
                  by_cases h13 : 0 ≤ (rd : Int) ∧ (rd : Int) ≤ 1439
                  · refine ri_top (b := 1) (if_pos h13) ?_
                    refine ri_if_eq (tgt := 58) hx hb (by unfold inR; omega) dX1_box_43 (by decide) (fun h14 => ?_) (fun h14 => ?_)
                    · skip
                      exfalso; omega
                    · skip
                      refine lv_iload hx hb dX1_box_46 (lv_at hl 6 rfl) ?_
                      refine rc_V (W.runS (As := [.int (iI (du))]) (rest := []) ⟨hx, hb, hml, hown, hts⟩ (cc_X1_isMinute l D cA du q_du) (va_cwS 1 hts (lw_S q560 q561 q42 q562) rfl rfl rfl (by decide +kernel) ⟨Nat.le_of_ble_eq_true rfl, Nat.le_of_ble_eq_true rfl⟩) (preS hK (B := fun _ => True) trivial) rfl rfl hl.1 rfl (lv_room (Nat.le_of_ble_eq_true rfl)) dX1_box_48 ⟨Nat.le_of_ble_eq_true rfl, Nat.le_of_ble_eq_true rfl⟩) ?_
                      by_cases h15 : 0 ≤ (du : Int) ∧ (du : Int) ≤ 1439
                      · refine ri_top (b := 1) (if_pos h15) ?_
                        refine ri_if_eq (tgt := 58) hx hb (by unfold inR; omega) dX1_box_51 (by decide) (fun h16 => ?_) (fun h16 => ?_)
                        · skip
                          exfalso; omega
                        · skip
                          refine lv_iconst (v := iI (1)) hx hb dX1_box_54 rfl ?_
                          refine lv_goto (tgt := 59) hx hb dX1_box_55 (by decide) ?_
                          refine lv_istore (lv' := [(7, .int (iI (1))), (0, .ref (ad 0 (0))), (1, .int (iI (hm))), (2, .int (iI (wk))), (3, .int (iI (rd))), (4, .int (iI (dk))), (5, .int (iI (wt))), (6, .int (iI (du)))]) hx hb dX1_box_59 hl (by decide) rfl (fun ls hl => ?_)
                          refine lv_iload hx hb dX1_box_61 (lv_at hl 0 rfl) ?_
                          refine ri_if_eq (tgt := 78) hx hb (by unfold inR; omega) dX1_box_63 (by decide) (fun h17 => ?_) (fun h17 => ?_)
                          · skip
                            exfalso; omega
                          · skip
                            refine lv_aload_n hx hb dX1_box_66 rfl (lv_at hl 1 rfl) ?_
                            refine h_get hx hb hts in_X1 hown hK hW.c0 rfl 2 (by decide) (hts _ q423) rfl (v := .ref (ad 1 (2))) rfl dX1_box_67 ?_
                            obtain ⟨mc18, cp18, cq18, cr18, hLi18⟩ := hW.l2
                            refine rc_V (W.runV (As := []) (rest := []) ⟨hx, hb, hml, hown, hts⟩ (al_size l D cA (ad 1 (2)) mc18 (ad 2 (2)) (F 4)) (cwV 0 hts (lw_V q448 q449 q450 q45 q451) rfl rfl rfl (by decide +kernel) ⟨Nat.le_of_ble_eq_true rfl, Nat.le_of_ble_eq_true rfl⟩) (preV hK hLi18.1 rfl hLi18.1) rfl rfl hl.1 rfl (lv_room (Nat.le_of_ble_eq_true rfl)) dX1_box_70 ⟨Nat.le_of_ble_eq_true rfl, Nat.le_of_ble_eq_true rfl⟩) ?_
                            refine lv_bipush (v := iI (60)) hx hb dX1_box_73 (by decide) ?_
                            refine ri_icmp_ne (tgt := 80) hx hb (by unfold inR; omega) (by unfold inR; omega) dX1_box_75 (by decide) (fun h19 => ?_) (fun h19 => ?_)
                            · skip
                              exfalso; omega
                            · skip
                              refine lv_iconst (v := iI (-1)) hx hb dX1_box_78 rfl ?_
                              exact W.iret hx hb hr (fun tt htt hWm => ⟨rfl, htt⟩) (fun _ h => absurd h List.not_mem_nil) dX1_box_79
                      · refine ri_top (b := 0) (if_neg h15) ?_
                        refine ri_if_eq (tgt := 58) hx hb (by unfold inR; omega) dX1_box_51 (by decide) (fun h20 => ?_) (fun h20 => ?_)
                        · skip
                          refine lv_iconst (v := iI (0)) hx hb dX1_box_58 rfl ?_
                          refine lv_istore (lv' := [(7, .int (iI (0))), (0, .ref (ad 0 (0))), (1, .int (iI (hm))), (2, .int (iI (wk))), (3, .int (iI (rd))), (4, .int (iI (dk))), (5, .int (iI (wt))), (6, .int (iI (du)))]) hx hb dX1_box_59 hl (by decide) rfl (fun ls hl => ?_)
                          refine lv_iload hx hb dX1_box_61 (lv_at hl 0 rfl) ?_
                          refine ri_if_eq (tgt := 78) hx hb (by unfold inR; omega) dX1_box_63 (by decide) (fun h21 => ?_) (fun h21 => ?_)
                          · skip
                            refine lv_iconst (v := iI (-1)) hx hb dX1_box_78 rfl ?_
                            exact W.iret hx hb hr (fun tt htt hWm => ⟨rfl, htt⟩) (fun _ h => absurd h List.not_mem_nil) dX1_box_79
                          · skip
                            exfalso; omega
                        · skip
                          exfalso; omega
                  · refine ri_top (b := 0) (if_neg h13) ?_
                    refine ri_if_eq (tgt := 58) hx hb (by unfold inR; omega) dX1_box_43 (by decide) (fun h22 => ?_) (fun h22 => ?_)
                    · skip
                      refine lv_iconst (v := iI (0)) hx hb dX1_box_58 rfl ?_
                      refine lv_istore (lv' := [(7, .int (iI (0))), (0, .ref (ad 0 (0))), (1, .int (iI (hm))), (2, .int (iI (wk))), (3, .int (iI (rd))), (4, .int (iI (dk))), (5, .int (iI (wt))), (6, .int (iI (du)))]) hx hb dX1_box_59 hl (by decide) rfl (fun ls hl => ?_)
                      refine lv_iload hx hb dX1_box_61 (lv_at hl 0 rfl) ?_
                      refine ri_if_eq (tgt := 78) hx hb (by unfold inR; omega) dX1_box_63 (by decide) (fun h23 => ?_) (fun h23 => ?_)
                      · skip
                        refine lv_iconst (v := iI (-1)) hx hb dX1_box_78 rfl ?_
                        exact W.iret hx hb hr (fun tt htt hWm => ⟨rfl, htt⟩) (fun _ h => absurd h List.not_mem_nil) dX1_box_79
                      · skip
                        exfalso; omega
                    · skip
                      exfalso; omega
      · refine ri_top (b := 0) (if_neg h3) ?_
        refine ri_if_eq (tgt := 58) hx hb (by unfold inR; omega) dX1_box_14 (by decide) (fun h24 => ?_) (fun h24 => ?_)
        · skip
          refine lv_iconst (v := iI (0)) hx hb dX1_box_58 rfl ?_
          refine lv_istore (lv' := [(7, .int (iI (0))), (0, .ref (ad 0 (0))), (1, .int (iI (hm))), (2, .int (iI (wk))), (3, .int (iI (rd))), (4, .int (iI (dk))), (5, .int (iI (wt))), (6, .int (iI (du)))]) hx hb dX1_box_59 hl (by decide) rfl (fun ls hl => ?_)
          refine lv_iload hx hb dX1_box_61 (lv_at hl 0 rfl) ?_
          refine ri_if_eq (tgt := 78) hx hb (by unfold inR; omega) dX1_box_63 (by decide) (fun h25 => ?_) (fun h25 => ?_)
          · skip
            refine lv_iconst (v := iI (-1)) hx hb dX1_box_78 rfl ?_
            exact W.iret hx hb hr (fun tt htt hWm => ⟨rfl, htt⟩) (fun _ h => absurd h List.not_mem_nil) dX1_box_79
          · skip
            exfalso; omega
        · skip
          exfalso; omega
  · refine ri_top (b := 0) (if_neg h1) ?_
    refine ri_if_eq (tgt := 58) hx hb (by unfold inR; omega) dX1_box_5 (by decide) (fun h26 => ?_) (fun h26 => ?_)
    · skip
      refine lv_iconst (v := iI (0)) hx hb dX1_box_58 rfl ?_
      refine lv_istore (lv' := [(7, .int (iI (0))), (0, .ref (ad 0 (0))), (1, .int (iI (hm))), (2, .int (iI (wk))), (3, .int (iI (rd))), (4, .int (iI (dk))), (5, .int (iI (wt))), (6, .int (iI (du)))]) hx hb dX1_box_59 hl (by decide) rfl (fun ls hl => ?_)
      refine lv_iload hx hb dX1_box_61 (lv_at hl 0 rfl) ?_
      refine ri_if_eq (tgt := 78) hx hb (by unfold inR; omega) dX1_box_63 (by decide) (fun h27 => ?_) (fun h27 => ?_)
      · skip
        refine lv_iconst (v := iI (-1)) hx hb dX1_box_78 rfl ?_
        exact W.iret hx hb hr (fun tt htt hWm => ⟨rfl, htt⟩) (fun _ h => absurd h List.not_mem_nil) dX1_box_79
      · skip
        exfalso; omega
    · skip
      exfalso; omega

set_option maxHeartbeats 4000000 in
set_option maxRecDepth 100000 in
theorem cc_X1_minutes (l : Launch) (D : va_G) (cA : Nat → ClassId) (A : Nat → Prop) (sa : Nat → Nat) (ad : Nat → Nat → Nat) (F : Nat → Nat) (N : Nat → Nat → Nat) (Z : Nat → Int) (E : Nat → Nat → Int) (K : Nat) (hKb : K ≤ 1000000) (hF : FB F) (hN : NB N) (hZ : ZB K Z) (hwf : WF F N) (n : Nat) (hn : n + F 1 ≤ 1439) : Met l yX1_minutes (ws_ yX1_minutes cX1_minutes 2 (some .int)) ({ frames := 2, cells := 0, slots := 0, locals := 50 }) (PC D cA A sa ad F N Z E [.ref (ad 0 (0)), .int (iI (n))]) (Qi (fun z H' => z = (F 1 + n : Nat) ∧ CW D cA A sa ad (va_up F 1 (F 1 + n)) N Z E H') A) 0 0 (A) := by
  refine Met.ofW (cc := cX1_minutes) (maxL := 2) (ret := (some .int)) (by decide) rfl ?_
  intro p e s m args below meth c s₁ B hml hv
  obtain ⟨rfl, hK, hW⟩ := hv
  have hx := B.exec
  have hb := B.bytes
  have hr := B.returns
  have hts := atoms_spec (ws := ws_ yX1_minutes cX1_minutes 2 (some .int)) B.pre
  have hts : ∀ w ∈ lw_all, w.before _ s = true := fun w h => hts w (List.mem_cons_of_mem _ h)
  have hown : s.vm.findClass RX1 = some m.cls := findClass_of_methodNamed B.named
  have hlocks := B.notSynchronized
  have hl := lv_entry ([.ref (ad 0 (0)), .int (iI (n))]) (n := 2) (Nat.le_of_ble_eq_true rfl)
  rw [lg_entry_eq]
  generalize (lg_sl ([.ref (ad 0 (0)), .int (iI (n))]) ++ List.replicate (2 - (lg_sl ([.ref (ad 0 (0)), .int (iI (n))])).length) Slot.unset).toArray = ls at hl ⊢
  have hl : lv_has ls 2 [(0, .ref (ad 0 (0))), (1, .int (iI (n)))] := hl
  obtain ⟨hSX, hW⟩ := hW
  have hS : va_S A s.heap s.heap [] := va_S.rf
  have hF2 : F 2 ≤ 10 := hF 2
  have hF3 : F 3 ≤ 16 := hF 3
  have hF4 : F 4 ≤ 60 := hF 4
  have hF5 : F 5 ≤ 40 := hF 5
  have hF1 : F 1 ≤ 1439 := hF 1
  refine lv_iload_n hx hb dX1_minutes_0 rfl (lv_at hl 1 rfl) ?_
  refine ri_if_lt (tgt := 20) hx hb (by unfold inR; omega) dX1_minutes_1 (by decide) (fun h1 => ?_) (fun h1 => ?_)
  · skip
    exfalso; omega
  · skip
    refine lv_iload_n hx hb dX1_minutes_4 rfl (lv_at hl 1 rfl) ?_
    refine lv_sipush (v := iI (1439)) hx hb dX1_minutes_5 (by decide) ?_
    refine lv_aload_n hx hb dX1_minutes_8 rfl (lv_at hl 0 rfl) ?_
    refine h_get hx hb hts in_X1 hown hK hW.c0 rfl 4 (by decide) (hts _ q425) rfl (v := .int (iI (F 1))) rfl dX1_minutes_9 ?_
    refine ri_isub hx hb dX1_minutes_12 ?_
    refine ri_icmp_gt (tgt := 20) hx hb (by unfold inR; omega) (by unfold inR; omega) dX1_minutes_13 (by decide) (fun h2 => ?_) (fun h2 => ?_)
    · skip
      exfalso; omega
    · skip
      refine lv_iconst (v := iI (1)) hx hb dX1_minutes_16 rfl ?_
      refine lv_goto (tgt := 21) hx hb dX1_minutes_17 (by decide) ?_
      refine rc_0 (W.runS (As := [.int (iI (1))]) (rest := []) ⟨hx, hb, hml, hown, hts⟩ (cc_X1_right l D cA  ) (va_cwS 1 hts (lw_S q835 q836 q42 q837) rfl rfl rfl (by decide +kernel) ⟨Nat.le_of_ble_eq_true rfl, Nat.le_of_ble_eq_true rfl⟩) (preS hK (B := fun _ => True) trivial) rfl rfl hl.1 rfl (lv_room (Nat.le_of_ble_eq_true rfl)) dX1_minutes_21 ⟨Nat.le_of_ble_eq_true rfl, Nat.le_of_ble_eq_true rfl⟩) ?_
      refine lv_aload_n hx hb dX1_minutes_24 rfl (lv_at hl 0 rfl) ?_
      refine lv_dup hx hb dX1_minutes_25 rfl ?_
      refine h_get hx hb hts in_X1 hown hK hW.c0 rfl 4 (by decide) (hts _ q425) rfl (v := .int (iI (F 1))) rfl dX1_minutes_26 ?_
      refine lv_iload_n hx hb dX1_minutes_29 rfl (lv_at hl 1 rfl) ?_
      refine ri_iadd hx hb dX1_minutes_30 ?_
      refine ri_top (b := ((F 1 + n : Nat) : Int)) (by omega) ?_
      refine h_put hx hb hts in_X1 tyX1 tyX1_ok nmX1 hown hK hW.c0 hS (hW.hA 0 (0) (by show 0 < 3; omega)) rfl 4 (by decide) (hts _ q425) rfl rfl (v := .int (iI ((F 1 + n : Nat)))) rfl rfl rfl (Nat.le_of_ble_eq_true rfl) dX1_minutes_31 (fun H locs hP oq zq hS => ?_)
      have hW := hW.setNow (v := F 1 + n) hF3 hN hP oq zq
      refine lv_aload_n hx hb dX1_minutes_34 rfl (lv_at hl 0 rfl) ?_
      refine h_get hx hb hts in_X1 hown hK hW.c0 rfl 4 (by decide) (hts _ q425) rfl (v := .int (iI ((va_up (F) 1 (F 1 + n)) 1))) rfl dX1_minutes_35 ?_
      refine ri_top (b := (F 1 + n : Nat)) rfl ?_
      exact W.iret hx hb hr (fun tt htt hWm => ⟨⟨_, rfl, by rw [htt]; exact ⟨rfl, hW⟩⟩, hS.F htt⟩) hS.2.2 dX1_minutes_38

set_option maxHeartbeats 4000000 in
set_option maxRecDepth 100000 in
theorem cc_X1_empty (l : Launch) (D : va_G) (cA : Nat → ClassId) (A : Nat → Prop) (sa : Nat → Nat) (ad : Nat → Nat → Nat) (F : Nat → Nat) (N : Nat → Nat → Nat) (Z : Nat → Int) (E : Nat → Nat → Int) (K : Nat) (hKb : K ≤ 1000000) (hF : FB F) (hN : NB N) (hZ : ZB K Z) (hwf : WF F N) (b rd : Nat) (hb4 : b < F 4) (h21 : N 21 b = 0) (hst1 : N 25 (2 * b) = 1) (har : arW N (2 * b) ≤ F 1) (hr1 : F 1 ≤ rd) (hr2 : rd ≤ 1439) (h24 : N 24 (2 * b + 1) = 0) (h25 : N 25 (2 * b + 1) = 0) (h26 : N 26 (2 * b + 1) = 0) : Met l yX1_empty (ws_ yX1_empty cX1_empty 4 (some .boolean)) ({ frames := 7, cells := 3, slots := 14, locals := 164 }) (PC D cA A sa ad F N Z E [.ref (ad 0 (0)), .int (iI (b)), .int (iI (rd))]) (Qi (fun z H' => z = 1 ∧ ∃ ad', ad' 0 0 = ad 0 0 ∧ CW D cA A sa ad' F (up2 (up2 N 21 b 1) 20 b rd) Z E H') A) 3 14 (A) := by
  refine Met.ofW (cc := cX1_empty) (maxL := 4) (ret := (some .boolean)) (by decide) rfl ?_
  intro p e s m args below meth c s₁ B hml hv
  obtain ⟨rfl, hK, hW⟩ := hv
  have hx := B.exec
  have hb := B.bytes
  have hr := B.returns
  have hts := atoms_spec (ws := ws_ yX1_empty cX1_empty 4 (some .boolean)) B.pre
  have hts : ∀ w ∈ lw_all, w.before _ s = true := fun w h => hts w (List.mem_cons_of_mem _ h)
  have hown : s.vm.findClass RX1 = some m.cls := findClass_of_methodNamed B.named
  have hlocks := B.notSynchronized
  have hl := lv_entry ([.ref (ad 0 (0)), .int (iI (b)), .int (iI (rd))]) (n := 4) (Nat.le_of_ble_eq_true rfl)
  rw [lg_entry_eq]
  generalize (lg_sl ([.ref (ad 0 (0)), .int (iI (b)), .int (iI (rd))]) ++ List.replicate (4 - (lg_sl ([.ref (ad 0 (0)), .int (iI (b)), .int (iI (rd))])).length) Slot.unset).toArray = ls at hl ⊢
  have hl : lv_has ls 4 [(0, .ref (ad 0 (0))), (1, .int (iI (b))), (2, .int (iI (rd)))] := hl
  obtain ⟨hSX, hW⟩ := hW
  have hS : va_S A s.heap s.heap [] := va_S.rf
  have hF2 : F 2 ≤ 10 := hF 2
  have hF3 : F 3 ≤ 16 := hF 3
  have hF4 : F 4 ≤ 60 := hF 4
  have hF5 : F 5 ≤ 40 := hF 5
  have hF1 : F 1 ≤ 1439 := hF 1
  have h14 := hwf.2.1 b hb4
  have hn18 : N 18 b ≤ 120 := hN 18 b
  have hn15 : N 15 b ≤ 120 := hN 15 b
  refine lv_aload_n hx hb dX1_empty_0 rfl (lv_at hl 0 rfl) ?_
  refine lv_iload_n hx hb dX1_empty_1 rfl (lv_at hl 1 rfl) ?_
  refine rc_V (W.runV (As := [.int (iI (b))]) (rest := []) ⟨hx, hb, hml, hown, hts⟩ (cc_X1_boxAt l D cA A sa ad F N Z E K hKb hF hN hZ hwf b (by omega)) (cwV 1 hts (lw_V q877 q879 qs13 q42 q880) rfl rfl rfl (by decide +kernel) ⟨Nat.le_of_ble_eq_true rfl, Nat.le_of_ble_eq_true rfl⟩) (preVC hK hSX hS hW.c0 rfl hW) rfl rfl hl.1 rfl (lv_room (Nat.le_of_ble_eq_true rfl)) dX1_empty_2 ⟨Nat.le_of_ble_eq_true rfl, Nat.le_of_ble_eq_true rfl⟩) ?_
  refine lv_astore_n (lv' := [(3, .ref (ad 7 (b))), (0, .ref (ad 0 (0))), (1, .int (iI (b))), (2, .int (iI (rd)))]) hx hb dX1_empty_5 rfl hl (by decide) rfl (fun ls hl => ?_)
  refine lv_aload_n hx hb dX1_empty_6 rfl (lv_at hl 0 rfl) ?_
  refine h_getN hx hb hts in_X6 hown hK (hW.k7n (b) (by omega) ‹_›) rfl 5 (by decide) q636 rfl (v := .null) rfl dX1_empty_7 ?_
  refine lv_ifnonnullN hx hb dX1_empty_10 ?_
  refine lv_aload_n hx hb dX1_empty_13 rfl (lv_at hl 0 rfl) ?_
  have b1 : TL F N (2 * (b)) := TL_0 (by omega)
  refine h_getN hx hb hts in_X6 hown hK (hW.k7 (b) (by omega)) rfl 0 (by decide) q626 rfl (v := .ref (ad 8 (2 * b))) rfl dX1_empty_14 ?_
  have b2 : N 25 (2 * b) ≤ 2 := hwf.2.2.2 _
  refine h_getN hx hb hts in_X7 hown hK (hW.k8 (2 * b) ‹TL F N (2 * b)›) rfl 7 (by decide) q604 rfl (v := .ref (sa (N 25 (2 * b)))) rfl dX1_empty_17 ?_
  refine va_gets (v := .ref (sa 1)) hx hb hSX.2.2.2.2.2.1 hS hown (hts _ q658) (fun _ h => h) dX1_empty_20 ?_
  refine r_acmp_ne (P := (N 25 (2 * b)) = 1) (tgt := 55) hx hb (hSX.ne (by omega) (by omega)) dX1_empty_23 (by decide) (fun h3 => ?_) (fun h3 => ?_)
  · skip
    exact absurd hst1 ‹_›
  · skip
    refine lv_aload_n hx hb dX1_empty_26 rfl (lv_at hl 0 rfl) ?_
    refine h_getN hx hb hts in_X6 hown hK (hW.k7 (b) (by omega)) rfl 0 (by decide) q626 rfl (v := .ref (ad 8 (2 * b))) rfl dX1_empty_27 ?_
    refine rc_V (W.runV (As := []) (rest := []) ⟨hx, hb, hml, hown, hts⟩ (cc_X7_arrives l D cA A sa ad F N Z E K hKb hF hN hZ hwf (2 * b) ‹_›) (cwV 0 hts (lw_V q881 q882 q883 q69 q884) rfl rfl rfl (by decide +kernel) ⟨Nat.le_of_ble_eq_true rfl, Nat.le_of_ble_eq_true rfl⟩) (preVC hK hSX hS (hW.k8 (2 * b) ‹TL F N (2 * b)›) rfl hW) rfl rfl hl.1 rfl (lv_room (Nat.le_of_ble_eq_true rfl)) dX1_empty_30 ⟨Nat.le_of_ble_eq_true rfl, Nat.le_of_ble_eq_true rfl⟩) ?_
    have b4 : -1 ≤ arW N (2 * b) ∧ arW N (2 * b) ≤ 1739 := arW_le hN _
    refine lv_aload_n hx hb dX1_empty_33 rfl (lv_at hl 1 rfl) ?_
    refine h_get hx hb hts in_X1 hown hK hW.c0 rfl 4 (by decide) (hts _ q425) rfl (v := .int (iI (F 1))) rfl dX1_empty_34 ?_
    refine ri_icmp_gt (tgt := 55) hx hb (by unfold inR; omega) (by unfold inR; omega) dX1_empty_37 (by decide) (fun h5 => ?_) (fun h5 => ?_)
    · skip
      exfalso; omega
    · skip
      refine lv_iload_n hx hb dX1_empty_40 rfl (lv_at hl 3 rfl) ?_
      refine rc_V (W.runS (As := [.int (iI (rd))]) (rest := []) ⟨hx, hb, hml, hown, hts⟩ (cc_X1_isMinute l D cA rd (by unfold inR; omega)) (va_cwS 1 hts (lw_S q560 q561 q42 q562) rfl rfl rfl (by decide +kernel) ⟨Nat.le_of_ble_eq_true rfl, Nat.le_of_ble_eq_true rfl⟩) (preS hK (B := fun _ => True) trivial) rfl rfl hl.1 rfl (lv_room (Nat.le_of_ble_eq_true rfl)) dX1_empty_41 ⟨Nat.le_of_ble_eq_true rfl, Nat.le_of_ble_eq_true rfl⟩) ?_
      refine ri_top (b := 1) (if_pos (show 0 ≤ (rd : Int) ∧ (rd : Int) ≤ 1439 from by omega)) ?_
      refine ri_if_eq (tgt := 55) hx hb (by unfold inR; omega) dX1_empty_44 (by decide) (fun h7 => ?_) (fun h7 => ?_)
      · skip
        exfalso; omega
      · skip
        refine lv_iload_n hx hb dX1_empty_47 rfl (lv_at hl 3 rfl) ?_
        refine lv_aload_n hx hb dX1_empty_48 rfl (lv_at hl 1 rfl) ?_
        refine h_get hx hb hts in_X1 hown hK hW.c0 rfl 4 (by decide) (hts _ q425) rfl (v := .int (iI (F 1))) rfl dX1_empty_49 ?_
        refine ri_icmp_ge (tgt := 57) hx hb (by unfold inR; omega) (by unfold inR; omega) dX1_empty_52 (by decide) (fun h8 => ?_) (fun h8 => ?_)
        · skip
          refine lv_aload_n hx hb dX1_empty_57 rfl (lv_at hl 0 rfl) ?_
          have hlt58 := hW.lt hF3 hN
          have hgr58 := hW.2.2.2
          refine h_new hx hb hts in_X7 tyX7 tyX7_ok hown (hts _ q867) (hts _ q584) (hts _ q69) hK hS (ci := 6) rfl (fs := [.null, .null, .int (iI (0)), .int (iI (0)), .int (iI (0)), .int (iI (0)), .null, .null, .int (iI (0))]) (fun j hj => by match j, hj with | 0, _ => rfl | 1, _ => rfl | 2, _ => rfl | 3, _ => rfl | 4, _ => rfl | 5, _ => rfl | 6, _ => rfl | 7, _ => rfl | 8, _ => rfl) (Nat.le_of_ble_eq_true rfl) (Nat.le_of_ble_eq_true rfl) dX1_empty_58 (fun z H hq58 hXz o1 z1 hS => ?_)
          have hAz : A z := hgr58 _ (by omega)
          have hW := hW.keptL hF3 hN (by omega) (fun k i hl => o1 _ (hlt58 k i hl))
          refine lv_dup hx hb dX1_empty_61 rfl ?_
          refine lv_aload_n hx hb dX1_empty_62 rfl (lv_at hl 0 rfl) ?_
          have b9 : N 17 (b) < F 2 := (hwf.2.1 _ (by omega)).2
          refine h_getN hx hb hts in_X6 hown hK (hW.k7 (b) (by omega)) rfl 2 (by decide) q630 rfl (v := .ref (ad 3 (N 17 b))) rfl dX1_empty_63 ?_
          refine lv_aload_n hx hb dX1_empty_66 rfl (lv_at hl 0 rfl) ?_
          have b10 : N 18 (b) ≤ 120 := hN 18 _
          refine h_getN hx hb hts in_X6 hown hK (hW.k7 (b) (by omega)) rfl 4 (by decide) q634 rfl (v := .int (iI (N 18 (b)))) rfl dX1_empty_67 ?_
          refine lv_iload_n hx hb dX1_empty_70 rfl (lv_at hl 3 rfl) ?_
          refine lv_aload_n hx hb dX1_empty_71 rfl (lv_at hl 0 rfl) ?_
          have b11 : N 14 (b) < F 2 := (hwf.2.1 _ (by omega)).1
          refine h_getN hx hb hts in_X6 hown hK (hW.k7 (b) (by omega)) rfl 1 (by decide) q628 rfl (v := .ref (ad 3 (N 14 b))) rfl dX1_empty_72 ?_
          refine lv_aload_n hx hb dX1_empty_75 rfl (lv_at hl 0 rfl) ?_
          have b12 : N 15 (b) ≤ 120 := hN 15 _
          refine h_getN hx hb hts in_X6 hown hK (hW.k7 (b) (by omega)) rfl 3 (by decide) q632 rfl (v := .int (iI (N 15 (b)))) rfl dX1_empty_76 ?_
          refine lv_sipush (v := iI (1439)) hx hb dX1_empty_79 (by decide) ?_
          have hzl0 := hXz.lt
          have hst := hW.k3 (N 17 b) (by omega)
          have hn6 : N 6 (N 17 b) ≤ 60 := hN 6 _
          refine rc_N (W.runI (As := [.ref (ad 3 (N 17 b)), .int (iI (N 18 (b))), .int (iI (rd)), .ref (ad 3 (N 14 b)), .int (iI (N 15 (b))), .int (iI (1439))]) (rest := [.ref z, .ref (ad 7 (b))]) ⟨hx, hb, hml, hown, hts⟩ (cc_X7_init l D cA A sa z H.size (ad 3 (N 17 b)) (N 18 b) rd (ad 3 (N 14 b)) (N 15 b) 1439 (N 17 b) (N 6 (N 17 b)) (fun q h => by rcases h with h | h; rw [h]; exact hAz; exact hgr58 _ (by omega)) (by omega) (by omega) (by omega)) (cwI 6 hts (lw_meth q587) rfl rfl rfl (hts _ q69) (hts _ q887) (hts _ q586) rfl (by decide +kernel) ⟨Nat.le_of_ble_eq_true rfl, Nat.le_of_ble_eq_true rfl⟩) ⟨Pq.blind (fun U g mk a h => ⟨h.1.blind, h.2⟩), fun U hU hWm => ⟨rfl, hK.moved hWm, hSX.call hS hU hWm.alike, by rw [hU]; exact hXz, by rw [hU]; exact hst, by rw [hU]⟩⟩ rfl rfl hl.1 rfl (lv_room (Nat.le_of_ble_eq_true rfl)) dX1_empty_82 ⟨Nat.le_of_ble_eq_true rfl, Nat.le_of_ble_eq_true rfl⟩) hS (fun q _ h => by rcases h with h | h; rw [h]; exact hAz; exact hgr58 _ (by omega)) (fun q h => by rcases h with h | h; rw [h]; exact hAz; exact hgr58 _ (by omega)) (fun H locs hq hS hz hk => ?_)
          obtain ⟨q1, e1, g1, g2, hLt, hXz⟩ := hq
          have hW := hW.keptL hF3 hN hz (fun k i hl => hk _ (by have := hlt58 k i hl; omega) (by have := hlt58 k i hl; omega))
          have hzl := hXz.lt
          have hbl := hlt58 7 b hb4
          have lq1 := hLt.1.lt
          have le1 := hLt.2.1.lt
          refine h_putN hx hb hts in_X6 tyX6 tyX6_ok nmX6 hown hK (hW.k7n b hb4 h21) hS (hW.hA 7 b hb4) rfl 5 (by decide) q636 rfl rfl (v := .ref z) rfl rfl rfl (Nat.le_of_ble_eq_true rfl) dX1_empty_85 (fun H locs hP oq zq hS => ?_)
          have hXz := hXz.kept (oq _ (by omega))
          have hLt := hLt.kept (oq _ (by omega)) (oq _ (by omega))
          have f1 : (up2 (up2 (up2 ad 8 (2 * b + 1) z) 1 (100 + (2 * b + 1)) q1) 2 (100 + (2 * b + 1)) e1) 2 (100 + (2 * b + 1)) = e1 := up2_eq _ _ _ _
          have f2 : (up2 (up2 (up2 ad 8 (2 * b + 1) z) 1 (100 + (2 * b + 1)) q1) 2 (100 + (2 * b + 1)) e1) 1 (100 + (2 * b + 1)) = q1 := by rw [up2_ne (Or.inl (by decide)), up2_eq]
          have f3 : (up2 (up2 (up2 ad 8 (2 * b + 1) z) 1 (100 + (2 * b + 1)) q1) 2 (100 + (2 * b + 1)) e1) 8 (2 * b + 1) = z := by rw [up2_ne (Or.inl (by decide)), up2_ne (Or.inl (by decide)), up2_eq]
          have tlx : ∀ w, TL F (up2 (up2 N 21 b 1) 20 b rd) w → w = 2 * b + 1 ∨ TL F N w := fun w hw => by
            have h1 : w / 2 < F 4 := hw.1
            have h2 := hw.2
            by_cases e : w / 2 = b
            · by_cases e2 : w % 2 = 0
              · exact Or.inr ⟨h1, Or.inl e2⟩
              · exact Or.inl (by omega)
            · refine Or.inr ⟨h1, h2.imp_right (fun q => ?_)⟩
              rw [up2_ne (Or.inl (by decide)), up2_ne (Or.inr e)] at q
              exact q
          have hW := hW.setBack (ad' := up2 (up2 (up2 ad 8 (2 * b + 1) z) 1 (100 + (2 * b + 1)) q1) 2 (100 + (2 * b + 1)) e1) (n0 := z) (b := b) (rd := rd) hF3 hN hwf hb4 h21 h24 h25 h26 tlx (by rw [f3]; exact hP) (by rw [f3, f2]; exact hXz) (by rw [f2, f1]; exact hLt) (fun k i hl => by have := hlt58 k i hl; omega) (fun q h => hgr58 q (by omega)) (fun k i hn => by rcases hn with ⟨rfl, rfl⟩ | ⟨rfl, rfl⟩ | ⟨rfl, rfl⟩ <;> simp only [f1, f2, f3] <;> omega) (fun k i k' i' h1 h2 e => by have hne := hLt.2.2.1; rcases h1 with ⟨rfl, rfl⟩ | ⟨rfl, rfl⟩ | ⟨rfl, rfl⟩ <;> rcases h2 with ⟨rfl, rfl⟩ | ⟨rfl, rfl⟩ | ⟨rfl, rfl⟩ <;> simp only [f1, f2, f3] at e <;> first | exact ⟨rfl, rfl⟩ | (exfalso; omega)) (fun k i hn => by rw [up2_ne (by omega), up2_ne (by omega), up2_ne (by omega)]) (fun q h1 h2 => oq q h2) (by omega)
          have hc09 : (up2 (up2 (up2 ad 8 (2 * b + 1) z) 1 (100 + (2 * b + 1)) q1) 2 (100 + (2 * b + 1)) e1) 0 0 = ad 0 0 := by rw [up2_ne (Or.inl (by decide)), up2_ne (Or.inl (by decide)), up2_ne (Or.inl (by decide))]
          refine lv_iconst (v := iI (1)) hx hb dX1_empty_88 rfl ?_
          exact W.zret hx hb hr (by rfl) (fun tt htt hWm => ⟨⟨_, rfl, by rw [htt]; exact ⟨rfl, _, hc09, hW⟩⟩, hS.F htt⟩) hS.2.2 dX1_empty_89
        · skip
          exfalso; omega

set_option maxHeartbeats 4000000 in
set_option maxRecDepth 100000 in
theorem cc_X1_empty_n (l : Launch) (D : va_G) (cA : Nat → ClassId) (A : Nat → Prop) (sa : Nat → Nat) (ad : Nat → Nat → Nat) (F : Nat → Nat) (N : Nat → Nat → Nat) (Z : Nat → Int) (E : Nat → Nat → Int) (K : Nat) (hKb : K ≤ 1000000) (hF : FB F) (hN : NB N) (hZ : ZB K Z) (hwf : WF F N) (b : Nat) (rd : Int) (q_rd : inR rd) (hb4 : b < F 4) (hbad : ¬ (N 21 b = 0 ∧ N 25 (2 * b) = 1 ∧ arW N (2 * b) ≤ F 1 ∧ F 1 ≤ rd ∧ rd ≤ 1439)) : Met l yX1_empty (ws_ yX1_empty cX1_empty 4 (some .boolean)) ({ frames := 7, cells := 0, slots := 0, locals := 164 }) (PC D cA A sa ad F N Z E [.ref (ad 0 (0)), .int (iI (b)), .int (iI (rd))]) (k2_QcV (.int (iI 0))) 0 0 (fun _ => False) := by
  refine Met.ofW (cc := cX1_empty) (maxL := 4) (ret := (some .boolean)) (by decide) rfl ?_
  intro p e s m args below meth c s₁ B hml hv
  obtain ⟨rfl, hK, hW⟩ := hv
  have hx := B.exec
  have hb := B.bytes
  have hr := B.returns
  have hts := atoms_spec (ws := ws_ yX1_empty cX1_empty 4 (some .boolean)) B.pre
  have hts : ∀ w ∈ lw_all, w.before _ s = true := fun w h => hts w (List.mem_cons_of_mem _ h)
  have hown : s.vm.findClass RX1 = some m.cls := findClass_of_methodNamed B.named
  have hlocks := B.notSynchronized
  have hl := lv_entry ([.ref (ad 0 (0)), .int (iI (b)), .int (iI (rd))]) (n := 4) (Nat.le_of_ble_eq_true rfl)
  rw [lg_entry_eq]
  generalize (lg_sl ([.ref (ad 0 (0)), .int (iI (b)), .int (iI (rd))]) ++ List.replicate (4 - (lg_sl ([.ref (ad 0 (0)), .int (iI (b)), .int (iI (rd))])).length) Slot.unset).toArray = ls at hl ⊢
  have hl : lv_has ls 4 [(0, .ref (ad 0 (0))), (1, .int (iI (b))), (2, .int (iI (rd)))] := hl
  obtain ⟨hSX, hW⟩ := hW
  have hS : va_S A s.heap s.heap [] := va_S.rf
  have hF2 : F 2 ≤ 10 := hF 2
  have hF3 : F 3 ≤ 16 := hF 3
  have hF4 : F 4 ≤ 60 := hF 4
  have hF5 : F 5 ≤ 40 := hF 5
  have hF1 : F 1 ≤ 1439 := hF 1
  have p_rd := q_rd; unfold inR at p_rd
  refine lv_aload_n hx hb dX1_empty_0 rfl (lv_at hl 0 rfl) ?_
  refine lv_iload_n hx hb dX1_empty_1 rfl (lv_at hl 1 rfl) ?_
  refine rc_V (W.runV (As := [.int (iI (b))]) (rest := []) ⟨hx, hb, hml, hown, hts⟩ (cc_X1_boxAt l D cA A sa ad F N Z E K hKb hF hN hZ hwf b (by omega)) (cwV 1 hts (lw_V q877 q879 qs13 q42 q880) rfl rfl rfl (by decide +kernel) ⟨Nat.le_of_ble_eq_true rfl, Nat.le_of_ble_eq_true rfl⟩) (preVC hK hSX hS hW.c0 rfl hW) rfl rfl hl.1 rfl (lv_room (Nat.le_of_ble_eq_true rfl)) dX1_empty_2 ⟨Nat.le_of_ble_eq_true rfl, Nat.le_of_ble_eq_true rfl⟩) ?_
  refine lv_astore_n (lv' := [(3, .ref (ad 7 (b))), (0, .ref (ad 0 (0))), (1, .int (iI (b))), (2, .int (iI (rd)))]) hx hb dX1_empty_5 rfl hl (by decide) rfl (fun ls hl => ?_)
  refine lv_aload_n hx hb dX1_empty_6 rfl (lv_at hl 0 rfl) ?_
  have b2 : N 21 (b) ≤ 1 := hN 21 _
  by_cases hbk1 : N 21 (b) = 0
  · skip
    refine h_getN hx hb hts in_X6 hown hK (hW.k7n (b) (by omega) ‹_›) rfl 5 (by decide) q636 rfl (v := .null) rfl dX1_empty_7 ?_
    refine lv_ifnonnullN hx hb dX1_empty_10 ?_
    refine lv_aload_n hx hb dX1_empty_13 rfl (lv_at hl 0 rfl) ?_
    have b3 : TL F N (2 * (b)) := TL_0 (by omega)
    refine h_getN hx hb hts in_X6 hown hK (hW.k7 (b) (by omega)) rfl 0 (by decide) q626 rfl (v := .ref (ad 8 (2 * b))) rfl dX1_empty_14 ?_
    have b4 : N 25 (2 * b) ≤ 2 := hwf.2.2.2 _
    refine h_getN hx hb hts in_X7 hown hK (hW.k8 (2 * b) ‹TL F N (2 * b)›) rfl 7 (by decide) q604 rfl (v := .ref (sa (N 25 (2 * b)))) rfl dX1_empty_17 ?_
    refine va_gets (v := .ref (sa 1)) hx hb hSX.2.2.2.2.2.1 hS hown (hts _ q658) (fun _ h => h) dX1_empty_20 ?_
    refine r_acmp_ne (P := (N 25 (2 * b)) = 1) (tgt := 55) hx hb (hSX.ne (by omega) (by omega)) dX1_empty_23 (by decide) (fun h5 => ?_) (fun h5 => ?_)
    · skip
      refine lv_iconst (v := iI (0)) hx hb dX1_empty_55 rfl ?_
      exact W.zret hx hb hr (by rfl) (fun tt htt hWm => ⟨rfl, htt⟩) (fun _ h => absurd h List.not_mem_nil) dX1_empty_56
    · skip
      refine lv_aload_n hx hb dX1_empty_26 rfl (lv_at hl 0 rfl) ?_
      refine h_getN hx hb hts in_X6 hown hK (hW.k7 (b) (by omega)) rfl 0 (by decide) q626 rfl (v := .ref (ad 8 (2 * b))) rfl dX1_empty_27 ?_
      refine rc_V (W.runV (As := []) (rest := []) ⟨hx, hb, hml, hown, hts⟩ (cc_X7_arrives l D cA A sa ad F N Z E K hKb hF hN hZ hwf (2 * b) ‹_›) (cwV 0 hts (lw_V q881 q882 q883 q69 q884) rfl rfl rfl (by decide +kernel) ⟨Nat.le_of_ble_eq_true rfl, Nat.le_of_ble_eq_true rfl⟩) (preVC hK hSX hS (hW.k8 (2 * b) ‹TL F N (2 * b)›) rfl hW) rfl rfl hl.1 rfl (lv_room (Nat.le_of_ble_eq_true rfl)) dX1_empty_30 ⟨Nat.le_of_ble_eq_true rfl, Nat.le_of_ble_eq_true rfl⟩) ?_
      have b6 : -1 ≤ arW N (2 * b) ∧ arW N (2 * b) ≤ 1739 := arW_le hN _
      refine lv_aload_n hx hb dX1_empty_33 rfl (lv_at hl 1 rfl) ?_
      refine h_get hx hb hts in_X1 hown hK hW.c0 rfl 4 (by decide) (hts _ q425) rfl (v := .int (iI (F 1))) rfl dX1_empty_34 ?_
      refine ri_icmp_gt (tgt := 55) hx hb (by unfold inR; omega) (by unfold inR; omega) dX1_empty_37 (by decide) (fun h7 => ?_) (fun h7 => ?_)
      · skip
        refine lv_iconst (v := iI (0)) hx hb dX1_empty_55 rfl ?_
        exact W.zret hx hb hr (by rfl) (fun tt htt hWm => ⟨rfl, htt⟩) (fun _ h => absurd h List.not_mem_nil) dX1_empty_56
      · skip
        refine lv_iload_n hx hb dX1_empty_40 rfl (lv_at hl 3 rfl) ?_
        refine rc_V (W.runS (As := [.int (iI (rd))]) (rest := []) ⟨hx, hb, hml, hown, hts⟩ (cc_X1_isMinute l D cA rd q_rd) (va_cwS 1 hts (lw_S q560 q561 q42 q562) rfl rfl rfl (by decide +kernel) ⟨Nat.le_of_ble_eq_true rfl, Nat.le_of_ble_eq_true rfl⟩) (preS hK (B := fun _ => True) trivial) rfl rfl hl.1 rfl (lv_room (Nat.le_of_ble_eq_true rfl)) dX1_empty_41 ⟨Nat.le_of_ble_eq_true rfl, Nat.le_of_ble_eq_true rfl⟩) ?_
        by_cases h8 : 0 ≤ (rd : Int) ∧ (rd : Int) ≤ 1439
        · refine ri_top (b := 1) (if_pos h8) ?_
          refine ri_if_eq (tgt := 55) hx hb (by unfold inR; omega) dX1_empty_44 (by decide) (fun h9 => ?_) (fun h9 => ?_)
          · skip
            exfalso; omega
          · skip
            refine lv_iload_n hx hb dX1_empty_47 rfl (lv_at hl 3 rfl) ?_
            refine lv_aload_n hx hb dX1_empty_48 rfl (lv_at hl 1 rfl) ?_
            refine h_get hx hb hts in_X1 hown hK hW.c0 rfl 4 (by decide) (hts _ q425) rfl (v := .int (iI (F 1))) rfl dX1_empty_49 ?_
            refine ri_icmp_ge (tgt := 57) hx hb q_rd (by unfold inR; omega) dX1_empty_52 (by decide) (fun h10 => ?_) (fun h10 => ?_)
            · skip
              exfalso; omega
            · skip
              refine lv_iconst (v := iI (0)) hx hb dX1_empty_55 rfl ?_
              exact W.zret hx hb hr (by rfl) (fun tt htt hWm => ⟨rfl, htt⟩) (fun _ h => absurd h List.not_mem_nil) dX1_empty_56
        · refine ri_top (b := 0) (if_neg h8) ?_
          refine ri_if_eq (tgt := 55) hx hb (by unfold inR; omega) dX1_empty_44 (by decide) (fun h11 => ?_) (fun h11 => ?_)
          · skip
            refine lv_iconst (v := iI (0)) hx hb dX1_empty_55 rfl ?_
            exact W.zret hx hb hr (by rfl) (fun tt htt hWm => ⟨rfl, htt⟩) (fun _ h => absurd h List.not_mem_nil) dX1_empty_56
          · skip
            exfalso; omega
  · skip
    refine h_getN hx hb hts in_X6 hown hK (hW.k7s (b) (by omega) ‹_›) rfl 5 (by decide) q636 rfl (v := .ref (ad 8 (2 * b + 1))) rfl dX1_empty_7 ?_
    have b12 : TL F N (2 * b + 1) := TL_1 (by omega) ‹_›
    refine lv_ifnonnull (tgt := 55) hx hb dX1_empty_10 (by decide) ?_
    refine lv_iconst (v := iI (0)) hx hb dX1_empty_55 rfl ?_
    exact W.zret hx hb hr (by rfl) (fun tt htt hWm => ⟨rfl, htt⟩) (fun _ h => absurd h List.not_mem_nil) dX1_empty_56
