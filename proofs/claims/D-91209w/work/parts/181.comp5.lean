set_option maxRecDepth 100000
set_option maxHeartbeats 4000000 in
set_option maxRecDepth 100000 in
theorem cc_X7_leaves (l : Launch) (D : va_G) (cA : Nat → ClassId) (A : Nat → Prop) (sa : Nat → Nat) (ad : Nat → Nat → Nat) (F : Nat → Nat) (N : Nat → Nat → Nat) (Z : Nat → Int) (E : Nat → Nat → Int) (K : Nat) (hKb : K ≤ 1000000) (hF : FB F) (hN : NB N) (hZ : ZB K Z) (hwf : WF F N) (w t k0 : Nat) (hw : TL F N w) (ht : t < F 3) (hk0 : k0 < N 24 w) (hk1 : N 27 (3 * w + k0) = t) (hk2 : ∀ i, i < k0 → N 27 (3 * w + i) ≠ t) (hK3 : K + 3 ≤ 1000000) : Met l yX7_leaves (ws_ yX7_leaves cX7_leaves 3 none) ({ frames := 4, cells := 0, slots := 0, locals := 106 }) (PC D cA A sa ad F N Z E [.ref (ad 8 (w)), .ref (ad 4 (t))]) (Qn (fun H' => CW D cA A sa ad F (up2 N 24 w k0) (ldZ N w (-1) k0 (N 24 w - k0) Z) E H') A) 0 0 (A) := by
  refine Met.ofW (cc := cX7_leaves) (maxL := 3) (ret := none) (by decide) rfl ?_
  intro p e s m args below meth c s₁ B hml hv
  obtain ⟨rfl, hK, hW⟩ := hv
  have hx := B.exec
  have hb := B.bytes
  have hr := B.returns
  have hts := atoms_spec (ws := ws_ yX7_leaves cX7_leaves 3 none) B.pre
  have hts : ∀ w ∈ lw_all, w.before _ s = true := fun w h => hts w (List.mem_cons_of_mem _ h)
  have hown : s.vm.findClass RX7 = some m.cls := findClass_of_methodNamed B.named
  have hlocks := B.notSynchronized
  have hl := lv_entry ([.ref (ad 8 (w)), .ref (ad 4 (t))]) (n := 3) (Nat.le_of_ble_eq_true rfl)
  rw [lg_entry_eq]
  generalize (lg_sl ([.ref (ad 8 (w)), .ref (ad 4 (t))]) ++ List.replicate (3 - (lg_sl ([.ref (ad 8 (w)), .ref (ad 4 (t))])).length) Slot.unset).toArray = ls at hl ⊢
  have hl : lv_has ls 3 [(0, .ref (ad 8 (w))), (1, .ref (ad 4 (t)))] := hl
  obtain ⟨hSX, hW⟩ := hW
  have hS : va_S A s.heap s.heap [] := va_S.rf
  have hF2 : F 2 ≤ 10 := hF 2
  have hF3 : F 3 ≤ 16 := hF 3
  have hF4 : F 4 ≤ 60 := hF 4
  have hF5 : F 5 ≤ 40 := hF 5
  have hF1 : F 1 ≤ 1439 := hF 1
  have hm3 : N 24 w ≤ 3 := hN 24 w
  have hN0 := hN
  have hwf0 := hwf
  refine lv_iconst (v := iI (0)) hx hb dX7_leaves_0 rfl ?_
  refine lv_istore_n (lv' := [(2, .int (iI (0))), (0, .ref (ad 8 (w))), (1, .ref (ad 4 (t)))]) hx hb dX7_leaves_1 rfl hl (by decide) rfl (fun ls hl => ?_)
  have lp2 : ∀ (fuel : Nat) (k : Nat) (hk : k ≤ k0), k0 - k < fuel → ∀ (H : Heap) (locs : List Loc) (ls : Array Slot), CW D cA A sa ad F N Z E H → va_S A s.heap H locs → lv_has ls 3 [(2, .int (iI (k))), (0, .ref (ad 8 (w))), (1, .ref (ad 4 (t)))] → W p l e (headSpec (ws_ yX7_leaves cX7_leaves 3 none) ({ frames := 4, cells := 0, slots := 0, locals := 106 })).room s m ([.ref (ad 8 (w)), .ref (ad 4 (t))] : List Value).toArray below meth c H locs 0 0 (MQ below (Qn (fun H' => CW D cA A sa ad F (up2 N 24 w k0) (ldZ N w (-1) k0 (N 24 w - k0) Z) E H') A) ([.ref (ad 8 (w)), .ref (ad 4 (t))] : List Value).toArray s 0 0 (A)) (F0 m 2 ls []) := by
    intro fuel
    induction fuel with
    | zero => intro k hk hm; exact absurd hm (Nat.not_lt_zero _)
    | succ fuel ih2 =>
      intro k hk hm2 H locs ls hW hS hl
      refine lv_aload_n hx hb dX7_leaves_2 rfl (lv_at hl 1 rfl) ?_
      refine h_get hx hb hts in_X7 hown hK (hW.k8 (w) ‹TL F N (w)›) rfl 6 (by decide) (hts _ q601) rfl (v := .ref (ad 1 (100 + w))) rfl dX7_leaves_3 ?_
      refine lv_iload_n hx hb dX7_leaves_6 rfl (lv_at hl 0 rfl) ?_
      have b2 : N 24 (w) ≤ 3 := hN 24 _
      obtain ⟨mc1, cp1, cq1, cr1, hLi1⟩ := (hW.lg (w) ‹TL F N (w)›)
      refine rc_V (W.runV (As := [.int (iI (k))]) (rest := []) ⟨hx, hb, hml, hown, hts⟩ (al_get l D cA (ad 1 (100 + w)) mc1 (ad 2 (100 + w)) (N 24 (w)) cp1 (fun j => ad 9 (3 * w + j)) (k) (by omega)) (cwV 1 hts (lw_V q675 q566 q567 q45 q568) rfl rfl rfl (by decide +kernel) ⟨Nat.le_of_ble_eq_true rfl, Nat.le_of_ble_eq_true rfl⟩) (preV hK hLi1.1 rfl hLi1) rfl rfl hl.1 rfl (lv_room (Nat.le_of_ble_eq_true rfl)) dX7_leaves_7 ⟨Nat.le_of_ble_eq_true rfl, Nat.le_of_ble_eq_true rfl⟩) ?_
      have b3 : N 27 (3 * w + k) < F 3 ∧ N 28 (3 * w + k) < N 29 (3 * w + k) ∧ N 29 (3 * w + k) < N 8 (N 27 (3 * w + k)) := hwf.2.2.1 _ _ ‹TL F N (w)› (by omega)
      have b4 : N 8 (N 27 (3 * w + k)) ≤ 10 := hN 8 _
      refine h_cast (ci := 7) (q := (RX8, TX8, 3)) hx hb hown (hts _ q676) hK rfl (isO.of (hW.k9 (w) (k) ‹TL F N (w)› (by omega))) dX7_leaves_10 ?_
      refine h_getN hx hb hts in_X8 hown hK (hW.k9 (w) (k) ‹TL F N (w)› (by omega)) rfl 0 (by decide) q721 rfl (v := .ref (ad 4 (N 27 (3 * w + k)))) rfl dX7_leaves_13 ?_
      refine lv_aload_n hx hb dX7_leaves_16 rfl (lv_at hl 2 rfl) ?_
      refine r_acmp_eq (P := (N 27 (3 * w + k)) = t) (tgt := 26) hx hb (hW.inj (k := 4) (by show _ < _; omega) (by show _ < _; omega)) dX7_leaves_17 (by decide) (fun hcmp => ?_) (fun hcmp => ?_)
      · skip
        have hkk : k = k0 := by rcases Nat.lt_or_ge k k0 with q | q; exact absurd hcmp (hk2 k q); omega
        rw [hkk] at hl
        have lp26 : ∀ (fuel : Nat) (r : Nat) (Zc : Nat → Int) (hrr : k0 + r ≤ N 24 w) (hZr : ldZ N w (-1) k0 r Zc = ldZ N w (-1) k0 (N 24 w - k0) Z) (hN : NB (up2 N 24 w (k0 + r))) (hwf : WF F (up2 N 24 w (k0 + r))) (htl : TL F (up2 N 24 w (k0 + r)) w) (hZ : ZB (K + (3 - r)) Zc), r < fuel → ∀ (H : Heap) (locs : List Loc) (ls : Array Slot), CW D cA A sa ad F (up2 N 24 w (k0 + r)) Zc E H → va_S A s.heap H locs → lv_has ls 3 [(2, .int (iI (k0))), (0, .ref (ad 8 (w))), (1, .ref (ad 4 (t)))] → W p l e (headSpec (ws_ yX7_leaves cX7_leaves 3 none) ({ frames := 4, cells := 0, slots := 0, locals := 106 })).room s m ([.ref (ad 8 (w)), .ref (ad 4 (t))] : List Value).toArray below meth c H locs 0 0 (MQ below (Qn (fun H' => CW D cA A sa ad F (up2 N 24 w k0) (ldZ N w (-1) k0 (N 24 w - k0) Z) E H') A) ([.ref (ad 8 (w)), .ref (ad 4 (t))] : List Value).toArray s 0 0 (A)) (F0 m 26 ls []) := by
          intro fuel
          induction fuel with
          | zero => intro r Zc hrr hZr hN hwf htl hZ hm; exact absurd hm (Nat.not_lt_zero _)
          | succ fuel ih26 =>
            intro r Zc hrr hZr hN hwf htl hZ hm26 H locs ls hW hS hl
            refine lv_aload_n hx hb dX7_leaves_26 rfl (lv_at hl 1 rfl) ?_
            refine h_get hx hb hts in_X7 hown hK (hW.k8 (w) ‹TL F (up2 N 24 w (k0 + r)) (w)›) rfl 6 (by decide) (hts _ q601) rfl (v := .ref (ad 1 (100 + w))) rfl dX7_leaves_27 ?_
            have b6 : (up2 N 24 w (k0 + r)) 24 (w) ≤ 3 := hN 24 _
            obtain ⟨mc5, cp5, cq5, cr5, hLi5⟩ := (hW.lg (w) ‹TL F (up2 N 24 w (k0 + r)) (w)›)
            refine rc_V (W.runV (As := []) (rest := []) ⟨hx, hb, hml, hown, hts⟩ (al_size l D cA (ad 1 (100 + w)) mc5 (ad 2 (100 + w)) ((up2 N 24 w (k0 + r)) 24 (w))) (cwV 0 hts (lw_V q674 q449 q450 q45 q451) rfl rfl rfl (by decide +kernel) ⟨Nat.le_of_ble_eq_true rfl, Nat.le_of_ble_eq_true rfl⟩) (preV hK hLi5.1 rfl hLi5.1) rfl rfl hl.1 rfl (lv_room (Nat.le_of_ble_eq_true rfl)) dX7_leaves_30 ⟨Nat.le_of_ble_eq_true rfl, Nat.le_of_ble_eq_true rfl⟩) ?_
            refine ri_top (b := (k0 + r : Nat)) (by rw [up2_eq]) ?_
            refine lv_iload_n hx hb dX7_leaves_33 rfl (lv_at hl 0 rfl) ?_
            refine ri_icmp_le (tgt := 62) hx hb (by unfold inR; omega) (by unfold inR; omega) dX7_leaves_34 (by decide) (fun h7 => ?_) (fun h7 => ?_)
            · skip
              exact W.vret hx hb hr (fun tt htt hWm => ⟨⟨rfl, by rw [htt]; exact (by rw [show r = 0 by omega] at hZr hW; rw [← hZr]; exact hW)⟩, hS.F htt⟩) hS.2.2 dX7_leaves_62
            · skip
              refine lv_aload_n hx hb dX7_leaves_37 rfl (lv_at hl 1 rfl) ?_
              refine h_get hx hb hts in_X7 hown hK (hW.k8 (w) ‹TL F (up2 N 24 w (k0 + r)) (w)›) rfl 6 (by decide) (hts _ q601) rfl (v := .ref (ad 1 (100 + w))) rfl dX7_leaves_38 ?_
              refine lv_aload_n hx hb dX7_leaves_41 rfl (lv_at hl 1 rfl) ?_
              refine h_get hx hb hts in_X7 hown hK (hW.k8 (w) ‹TL F (up2 N 24 w (k0 + r)) (w)›) rfl 6 (by decide) (hts _ q601) rfl (v := .ref (ad 1 (100 + w))) rfl dX7_leaves_42 ?_
              obtain ⟨mc8, cp8, cq8, cr8, hLi8⟩ := (hW.lg (w) ‹TL F (up2 N 24 w (k0 + r)) (w)›)
              refine rc_V (W.runV (As := []) (rest := [.ref (ad 1 (100 + w))]) ⟨hx, hb, hml, hown, hts⟩ (al_size l D cA (ad 1 (100 + w)) mc8 (ad 2 (100 + w)) ((up2 N 24 w (k0 + r)) 24 (w))) (cwV 0 hts (lw_V q674 q449 q450 q45 q451) rfl rfl rfl (by decide +kernel) ⟨Nat.le_of_ble_eq_true rfl, Nat.le_of_ble_eq_true rfl⟩) (preV hK hLi8.1 rfl hLi8.1) rfl rfl hl.1 rfl (lv_room (Nat.le_of_ble_eq_true rfl)) dX7_leaves_45 ⟨Nat.le_of_ble_eq_true rfl, Nat.le_of_ble_eq_true rfl⟩) ?_
              refine ri_top (b := (k0 + r : Nat)) (by rw [up2_eq]) ?_
              refine lv_iconst (v := iI (1)) hx hb dX7_leaves_48 rfl ?_
              refine ri_isub hx hb dX7_leaves_49 ?_
              refine ri_top (b := ((k0 + (r - 1)) : Nat)) (by omega) ?_
              obtain ⟨mc9, cp9, cq9, cr9, hLi9⟩ := (hW.lg (w) ‹TL F (up2 N 24 w (k0 + r)) (w)›)
              rw [up2_eq, show k0 + r = k0 + (r - 1) + 1 by omega] at hLi9
              have hleg := hW.k9 w (k0 + (r - 1)) ‹_› (by rw [up2_eq]; omega)
              have hlt0 := hW.lt hF3 hN
              have hlne1 := hW.ne (k := 9) (i := 3 * w + (k0 + (r - 1))) (k' := 1) (i' := 100 + w) (lv_9 ‹_› (by rw [up2_eq]; omega) (hN 24 w)) (lv_lg ‹_›) (Or.inl (by decide))
              have hlne2 := hW.ne (k := 9) (i := 3 * w + (k0 + (r - 1))) (k' := 2) (i' := 100 + w) (lv_9 ‹_› (by rw [up2_eq]; omega) (hN 24 w)) (lv_eg ‹_›) (Or.inl (by decide))
              refine rc_O (W.runV (As := [.int (iI (((k0 + (r - 1)) : Nat)))]) (rest := []) ⟨hx, hb, hml, hown, hts⟩ (al_remove l D cA (ad 1 (100 + w)) mc9 (ad 2 (100 + w)) (k0 + (r - 1)) cp9 (fun j => ad 9 (3 * w + j))) (cwV 1 hts (lw_V q854 q855 q856 q45 q857) rfl rfl rfl (by decide +kernel) ⟨Nat.le_of_ble_eq_true rfl, Nat.le_of_ble_eq_true rfl⟩) (preV hK hLi9.1 rfl hLi9) rfl rfl hl.1 rfl (lv_room (Nat.le_of_ble_eq_true rfl)) dX7_leaves_50 ⟨Nat.le_of_ble_eq_true rfl, Nat.le_of_ble_eq_true rfl⟩) hS (fun q _ h => h.elim (fun e => e ▸ hW.hA 1 _ (lv_lg ‹_›)) (fun e => e ▸ hW.hA 2 _ (lv_eg ‹_›))) (fun q h => h.elim (fun e => e ▸ hW.hA 1 _ (lv_lg ‹_›)) (fun e => e ▸ hW.hA 2 _ (lv_eg ‹_›))) (fun z H locs hq hS hz hk => ?_)
              obtain ⟨hz2, hLi⟩ := hq
              have hleg := hleg.kept (hk _ (hlt0 9 _ (lv_9 ‹_› (by rw [up2_eq]; omega) (hN 24 w))) (fun q => q.elim hlne1 hlne2))
              have hz2 : z = ad 9 (3 * w + (k0 + (r - 1))) := hz2
              rw [← hz2] at hleg
              have hW := hW.popG (n := (k0 + (r - 1))) hF3 hN ‹_› (by rw [up2_eq]; omega) ⟨_, _, by assumption, by assumption, hLi⟩ hlt0 (fun q h1 h2 => hk q h1 h2) (by omega)
              rw [up2_up2] at hW
              have hleg : va_at D CL (z, .inr (7, [.ref (ad 4 (N 27 (3 * w + (k0 + (r - 1))))), .int (iI (N 28 (3 * w + (k0 + (r - 1))) : Int)), .int (iI (N 29 (3 * w + (k0 + (r - 1))) : Int))])) H := hleg
              have hl3 := hwf0.2.2.1 w (k0 + (r - 1)) hw (by omega)
              have hN : NB (up2 N 24 w (k0 + (r - 1))) := hN0.up (by show _ ≤ 3; omega)
              have hwf : WF F (up2 N 24 w (k0 + (r - 1))) := hwf0.pop (by omega)
              have htl : TL F (up2 N 24 w (k0 + (r - 1))) w := hw
              refine h_cast (ci := 7) (q := (RX8, TX8, 3)) hx hb hown (hts _ q676) hK rfl (isO.of hleg) dX7_leaves_53 ?_
              refine rc_N (W.runV (As := []) (rest := []) ⟨hx, hb, hml, hown, hts⟩ (cc_X8_leaves l D cA A sa ad F (up2 N 24 w (k0 + (r - 1))) Zc E _ (by omega) hF hN hZ hwf z (N 27 (3 * w + (k0 + (r - 1)))) (N 28 (3 * w + (k0 + (r - 1)))) (N 29 (3 * w + (k0 + (r - 1)))) (by omega) (by omega) (by show _ < N 8 _; omega)) (cwV 0 hts (lw_V q863 q864 q865 q72 q866) rfl rfl rfl (by decide +kernel) ⟨Nat.le_of_ble_eq_true rfl, Nat.le_of_ble_eq_true rfl⟩) (preVZ hK hSX hS hleg rfl hW) rfl rfl hl.1 rfl (lv_room (Nat.le_of_ble_eq_true rfl)) dX7_leaves_56 ⟨Nat.le_of_ble_eq_true rfl, Nat.le_of_ble_eq_true rfl⟩) hS (fun _ _ h => h) (fun _ h => h) (fun H locs hW hS hz hk => ?_)
              have hZ := adZ_B hZ (v := -1) (by decide) (by decide) (10 * (N 27 (3 * w + (k0 + (r - 1)))) + (N 28 (3 * w + (k0 + (r - 1))))) (10 * (N 27 (3 * w + (k0 + (r - 1)))) + (N 29 (3 * w + (k0 + (r - 1)))))
              refine lv_goto (tgt := 26) hx hb dX7_leaves_59 (by decide) ?_
              rw [show r = (r - 1) + 1 by omega] at hZr
              exact ih26 (r - 1) (adZ Zc (-1) (10 * (N 27 (3 * w + (k0 + (r - 1)))) + (N 28 (3 * w + (k0 + (r - 1))))) (10 * (N 27 (3 * w + (k0 + (r - 1)))) + (N 29 (3 * w + (k0 + (r - 1)))))) (by omega) (by rw [ldZ_last]; exact hZr) hN hwf htl (hZ.mono (by omega)) (by omega) _ _ _ hW hS (lv_sub hl [0, 1, 2] rfl)
        have hW : CW D cA A sa ad F (up2 N 24 w (k0 + (N 24 w - k0))) Z E H := by rw [show k0 + (N 24 w - k0) = N 24 w by omega, up2_eta]; exact hW
        exact lp26 _ (N 24 w - k0) (Z) (by omega) rfl (hN.up (by show _ ≤ 3; omega)) (hwf.pop (by omega)) hw (hZ.mono (by omega)) (Nat.lt_succ_self _) _ _ _ hW hS (lv_sub hl [0, 1, 2] rfl)
      · skip
        have hkk : k ≠ k0 := fun q => hcmp (by rw [q]; exact hk1)
        refine lv_iinc (v := iI ((k + 1 : Nat))) (lv' := [(2, .int (iI ((k + 1 : Nat)))), (0, .ref (ad 8 (w))), (1, .ref (ad 4 (t)))]) hx hb dX7_leaves_20 hl (k := 0) rfl (iI_succ _) (by decide) rfl (fun ls hl => ?_)
        refine lv_goto (tgt := 2) hx hb dX7_leaves_23 (by decide) ?_
        exact ih2 (k + 1) (by omega) (by omega) _ _ _ hW hS (lv_sub hl [0, 1, 2] rfl)
  exact lp2 _ (0) (Nat.zero_le _) (Nat.lt_succ_self _) _ _ _ hW hS (lv_sub hl [0, 1, 2] rfl)

set_option maxHeartbeats 4000000 in
set_option maxRecDepth 100000 in
theorem cc_X1_first (l : Launch) (D : va_G) (cA : Nat → ClassId) (A : Nat → Prop) (sa : Nat → Nat) (ad : Nat → Nat → Nat) (F : Nat → Nat) (N : Nat → Nat → Nat) (Z : Nat → Int) (E : Nat → Nat → Int) (K : Nat) (hKb : K ≤ 1000000) (hF : FB F) (hN : NB N) (hZ : ZB K Z) (hwf : WF F N) (f mi n n0 : Nat) (q : Nat × Nat × Nat) (hmi : mi ≤ 2000) (hf9 : f ≤ 9) (hn1 : 1 ≤ n) (hn3 : n ≤ 3) (heb2 : eb (E 2)) (hfq : (legsA N Z f mi (F 3) 0).find? (fP N (E 2) n) = some q) : Met l yX1_first (ws_ yX1_first cX1_first 8 (some (.object "LunchMarks$Leg"))) ({ frames := 5, cells := 1, slots := 3, locals := 128 }) (PS D cA A sa ad F N Z E [.ref (ad 0 (0)), .int (iI (f)), .int (iI (mi)), .int (iI (n))] n0) (Qo (fun z H' => n0 ≤ z ∧ va_at D CL (z, .inr (7, [.ref (ad 4 q.1), .int (iI (q.2.1 : Int)), .int (iI (q.2.2 : Int))])) H' ∧ CW D cA A sa ad F N Z E H') A) 1 3 (A) := by
  refine Met.ofW (cc := cX1_first) (maxL := 8) (ret := (some (.object "LunchMarks$Leg"))) (by decide) rfl ?_
  intro p e s m args below meth c s₁ B hml hv
  obtain ⟨rfl, hK, hW⟩ := hv
  have hx := B.exec
  have hb := B.bytes
  have hr := B.returns
  have hts := atoms_spec (ws := ws_ yX1_first cX1_first 8 (some (.object "LunchMarks$Leg"))) B.pre
  have hts : ∀ w ∈ lw_all, w.before _ s = true := fun w h => hts w (List.mem_cons_of_mem _ h)
  have hown : s.vm.findClass RX1 = some m.cls := findClass_of_methodNamed B.named
  have hlocks := B.notSynchronized
  have hl := lv_entry ([.ref (ad 0 (0)), .int (iI (f)), .int (iI (mi)), .int (iI (n))]) (n := 8) (Nat.le_of_ble_eq_true rfl)
  rw [lg_entry_eq]
  generalize (lg_sl ([.ref (ad 0 (0)), .int (iI (f)), .int (iI (mi)), .int (iI (n))]) ++ List.replicate (8 - (lg_sl ([.ref (ad 0 (0)), .int (iI (f)), .int (iI (mi)), .int (iI (n))])).length) Slot.unset).toArray = ls at hl ⊢
  have hl : lv_has ls 8 [(0, .ref (ad 0 (0))), (1, .int (iI (f))), (2, .int (iI (mi))), (3, .int (iI (n)))] := hl
  obtain ⟨⟨hSX, hW⟩, hn0⟩ := hW
  have hS : va_S A s.heap s.heap [] := va_S.rf
  have hF2 : F 2 ≤ 10 := hF 2
  have hF3 : F 3 ≤ 16 := hF 3
  have hF4 : F 4 ≤ 60 := hF 4
  have hF5 : F 5 ≤ 40 := hF 5
  have hF1 : F 1 ≤ 1439 := hF 1
  refine lv_iconst (v := iI (0)) hx hb dX1_first_0 rfl ?_
  refine lv_istore (lv' := [(4, .int (iI (0))), (0, .ref (ad 0 (0))), (1, .int (iI (f))), (2, .int (iI (mi))), (3, .int (iI (n)))]) hx hb dX1_first_1 hl (by decide) rfl (fun ls hl => ?_)
  have lp3 : ∀ (fuel : Nat) (t : Nat) (ht : t ≤ F 3) (hf : (legsA N Z f mi (F 3 - t) t).find? (fP N (E 2) n) = some q), F 3 - t < fuel → ∀ (ls : Array Slot), lv_has ls 8 [(4, .int (iI (t))), (0, .ref (ad 0 (0))), (1, .int (iI (f))), (2, .int (iI (mi))), (3, .int (iI (n)))] → W p l e (headSpec (ws_ yX1_first cX1_first 8 (some (.object "LunchMarks$Leg"))) ({ frames := 5, cells := 1, slots := 3, locals := 128 })).room s m ([.ref (ad 0 (0)), .int (iI (f)), .int (iI (mi)), .int (iI (n))] : List Value).toArray below meth c s.heap [] 0 0 (MQ below (Qo (fun z H' => n0 ≤ z ∧ va_at D CL (z, .inr (7, [.ref (ad 4 q.1), .int (iI (q.2.1 : Int)), .int (iI (q.2.2 : Int))])) H' ∧ CW D cA A sa ad F N Z E H') A) ([.ref (ad 0 (0)), .int (iI (f)), .int (iI (mi)), .int (iI (n))] : List Value).toArray s 1 3 (A)) (F0 m 3 ls []) := by
    intro fuel
    induction fuel with
    | zero => intro t ht hf hm; exact absurd hm (Nat.not_lt_zero _)
    | succ fuel ih3 =>
      intro t ht hf hm3 ls hl
      refine lv_iload hx hb dX1_first_3 (lv_at hl 0 rfl) ?_
      refine lv_aload_n hx hb dX1_first_5 rfl (lv_at hl 1 rfl) ?_
      refine h_get hx hb hts in_X1 hown hK hW.c0 rfl 1 (by decide) (hts _ q422) rfl (v := .ref (ad 1 (1))) rfl dX1_first_6 ?_
      obtain ⟨mc1, cp1, cq1, cr1, hLi1⟩ := hW.l1
      refine rc_V (W.runV (As := []) (rest := [.int (iI (t))]) ⟨hx, hb, hml, hown, hts⟩ (al_size l D cA (ad 1 (1)) mc1 (ad 2 (1)) (F 3)) (cwV 0 hts (lw_V q448 q449 q450 q45 q451) rfl rfl rfl (by decide +kernel) ⟨Nat.le_of_ble_eq_true rfl, Nat.le_of_ble_eq_true rfl⟩) (preV hK hLi1.1 rfl hLi1.1) rfl rfl hl.1 rfl (lv_room (Nat.le_of_ble_eq_true rfl)) dX1_first_9 ⟨Nat.le_of_ble_eq_true rfl, Nat.le_of_ble_eq_true rfl⟩) ?_
      refine ri_icmp_ge (tgt := 142) hx hb (by unfold inR; omega) (by unfold inR; omega) dX1_first_12 (by decide) (fun h2 => ?_) (fun h2 => ?_)
      · skip
        rw [show F 3 - t = 0 by omega] at hf; exact absurd hf (by simp [legsA])
      · skip
        rw [show F 3 - t = (F 3 - (t + 1)) + 1 by omega, legsA] at hf
        refine lv_aload_n hx hb dX1_first_15 rfl (lv_at hl 1 rfl) ?_
        refine h_get hx hb hts in_X1 hown hK hW.c0 rfl 1 (by decide) (hts _ q422) rfl (v := .ref (ad 1 (1))) rfl dX1_first_16 ?_
        refine lv_iload hx hb dX1_first_19 (lv_at hl 0 rfl) ?_
        obtain ⟨mc3, cp3, cq3, cr3, hLi3⟩ := hW.l1
        refine rc_V (W.runV (As := [.int (iI (t))]) (rest := []) ⟨hx, hb, hml, hown, hts⟩ (al_get l D cA (ad 1 (1)) mc3 (ad 2 (1)) (F 3) cp3 (ad 4) (t) (by omega)) (cwV 1 hts (lw_V q565 q566 q567 q45 q568) rfl rfl rfl (by decide +kernel) ⟨Nat.le_of_ble_eq_true rfl, Nat.le_of_ble_eq_true rfl⟩) (preV hK hLi3.1 rfl hLi3) rfl rfl hl.1 rfl (lv_room (Nat.le_of_ble_eq_true rfl)) dX1_first_21 ⟨Nat.le_of_ble_eq_true rfl, Nat.le_of_ble_eq_true rfl⟩) ?_
        refine h_cast (ci := 3) (q := (RX4, TX4, 6)) hx hb hown (hts _ q519) hK rfl (isO.of (hW.k4 (t) (by omega))) dX1_first_24 ?_
        refine lv_astore (lv' := [(5, .ref (ad 4 (t))), (4, .int (iI (t))), (0, .ref (ad 0 (0))), (1, .int (iI (f))), (2, .int (iI (mi))), (3, .int (iI (n)))]) hx hb dX1_first_27 hl (by decide) rfl (fun ls hl => ?_)
        refine lv_iconst (v := iI (0)) hx hb dX1_first_29 rfl ?_
        refine lv_istore (lv' := [(6, .int (iI (0))), (5, .ref (ad 4 (t))), (4, .int (iI (t))), (0, .ref (ad 0 (0))), (1, .int (iI (f))), (2, .int (iI (mi))), (3, .int (iI (n)))]) hx hb dX1_first_30 hl (by decide) rfl (fun ls hl => ?_)
        have lp32 : ∀ (fuel : Nat) (i : Nat) (hi : i ≤ N 8 t) (hf2 : (legsT N Z f mi t (N 8 t - i) i ++ legsA N Z f mi (F 3 - (t + 1)) (t + 1)).find? (fP N (E 2) n) = some q), N 8 t - i < fuel → ∀ (ls : Array Slot), lv_has ls 8 [(6, .int (iI (i))), (5, .ref (ad 4 (t))), (4, .int (iI (t))), (0, .ref (ad 0 (0))), (1, .int (iI (f))), (2, .int (iI (mi))), (3, .int (iI (n)))] → W p l e (headSpec (ws_ yX1_first cX1_first 8 (some (.object "LunchMarks$Leg"))) ({ frames := 5, cells := 1, slots := 3, locals := 128 })).room s m ([.ref (ad 0 (0)), .int (iI (f)), .int (iI (mi)), .int (iI (n))] : List Value).toArray below meth c s.heap [] 0 0 (MQ below (Qo (fun z H' => n0 ≤ z ∧ va_at D CL (z, .inr (7, [.ref (ad 4 q.1), .int (iI (q.2.1 : Int)), .int (iI (q.2.2 : Int))])) H' ∧ CW D cA A sa ad F N Z E H') A) ([.ref (ad 0 (0)), .int (iI (f)), .int (iI (mi)), .int (iI (n))] : List Value).toArray s 1 3 (A)) (F0 m 32 ls []) := by
          intro fuel
          induction fuel with
          | zero => intro i hi hf2 hm; exact absurd hm (Nat.not_lt_zero _)
          | succ fuel ih32 =>
            intro i hi hf2 hm32 ls hl
            have hm8 : N 8 t ≤ 10 := hN 8 t
            refine lv_iload hx hb dX1_first_32 (lv_at hl 0 rfl) ?_
            refine lv_aload hx hb dX1_first_34 (lv_at hl 1 rfl) ?_
            refine h_getN hx hb hts in_X4 hown hK (hW.k4 (t) (by omega)) rfl 2 (by decide) q533 rfl (v := .ref (ad 1 (10 + t))) rfl dX1_first_36 ?_
            have b5 : N 8 (t) ≤ 10 := hN 8 _
            obtain ⟨mc4, cp4, cq4, cr4, hLi4⟩ := (hW.lp (t) (by omega))
            refine rc_V (W.runV (As := []) (rest := [.int (iI (i))]) ⟨hx, hb, hml, hown, hts⟩ (al_size l D cA (ad 1 (10 + t)) mc4 (ad 2 (10 + t)) (N 8 (t))) (cwV 0 hts (lw_V q448 q449 q450 q45 q451) rfl rfl rfl (by decide +kernel) ⟨Nat.le_of_ble_eq_true rfl, Nat.le_of_ble_eq_true rfl⟩) (preV hK hLi4.1 rfl hLi4.1) rfl rfl hl.1 rfl (lv_room (Nat.le_of_ble_eq_true rfl)) dX1_first_39 ⟨Nat.le_of_ble_eq_true rfl, Nat.le_of_ble_eq_true rfl⟩) ?_
            refine ri_icmp_ge (tgt := 136) hx hb (by unfold inR; omega) (by unfold inR; omega) dX1_first_42 (by decide) (fun h6 => ?_) (fun h6 => ?_)
            · skip
              refine lv_iinc (v := iI ((t + 1 : Nat))) (lv' := [(4, .int (iI ((t + 1 : Nat)))), (6, .int (iI (i))), (5, .ref (ad 4 (t))), (0, .ref (ad 0 (0))), (1, .int (iI (f))), (2, .int (iI (mi))), (3, .int (iI (n)))]) hx hb dX1_first_136 hl (k := 2) rfl (iI_succ _) (by decide) rfl (fun ls hl => ?_)
              refine lv_goto (tgt := 3) hx hb dX1_first_139 (by decide) ?_
              have hlt0 : legsT N Z f mi t (N 8 t - i) i = [] := by first | (rw [show N 8 t - i = 0 by omega]; rfl) | exact legsT_cn (by omega) _ _
              rw [hlt0, List.nil_append] at hf2
              exact ih3 (t + 1) (by omega) hf2 (by omega) _ (lv_sub hl [0, 3, 4, 5, 6] rfl)
            · skip
              refine lv_aload hx hb dX1_first_45 (lv_at hl 1 rfl) ?_
              have b7 : N 13 (t) ≤ 1 := hN 13 _
              refine h_getN hx hb hts in_X4 hown hK (hW.k4 (t) (by omega)) rfl 4 (by decide) q536 rfl (v := .int (iI (N 13 (t)))) rfl dX1_first_47 ?_
              refine ri_if_ne (tgt := 136) hx hb (by unfold inR; omega) dX1_first_50 (by decide) (fun hcx => ?_) (fun hcx => ?_)
              · skip
                refine lv_iinc (v := iI ((t + 1 : Nat))) (lv' := [(4, .int (iI ((t + 1 : Nat)))), (6, .int (iI (i))), (5, .ref (ad 4 (t))), (0, .ref (ad 0 (0))), (1, .int (iI (f))), (2, .int (iI (mi))), (3, .int (iI (n)))]) hx hb dX1_first_136 hl (k := 2) rfl (iI_succ _) (by decide) rfl (fun ls hl => ?_)
                refine lv_goto (tgt := 3) hx hb dX1_first_139 (by decide) ?_
                have hlt0 : legsT N Z f mi t (N 8 t - i) i = [] := by first | (rw [show N 8 t - i = 0 by omega]; rfl) | exact legsT_cn (by omega) _ _
                rw [hlt0, List.nil_append] at hf2
                exact ih3 (t + 1) (by omega) hf2 (by omega) _ (lv_sub hl [0, 3, 4, 5, 6] rfl)
              · skip
                have hcn : N 13 t = 0 := by omega
                refine lv_aload hx hb dX1_first_53 (lv_at hl 1 rfl) ?_
                refine h_getN hx hb hts in_X4 hown hK (hW.k4 (t) (by omega)) rfl 2 (by decide) q533 rfl (v := .ref (ad 1 (10 + t))) rfl dX1_first_55 ?_
                refine lv_iload hx hb dX1_first_58 (lv_at hl 0 rfl) ?_
                obtain ⟨mc8, cp8, cq8, cr8, hLi8⟩ := (hW.lp (t) (by omega))
                refine rc_V (W.runV (As := [.int (iI (i))]) (rest := []) ⟨hx, hb, hml, hown, hts⟩ (al_get l D cA (ad 1 (10 + t)) mc8 (ad 2 (10 + t)) (N 8 (t)) cp8 (fun j => ad 6 (10 * t + j)) (i) (by omega)) (cwV 1 hts (lw_V q565 q566 q567 q45 q568) rfl rfl rfl (by decide +kernel) ⟨Nat.le_of_ble_eq_true rfl, Nat.le_of_ble_eq_true rfl⟩) (preV hK hLi8.1 rfl hLi8) rfl rfl hl.1 rfl (lv_room (Nat.le_of_ble_eq_true rfl)) dX1_first_60 ⟨Nat.le_of_ble_eq_true rfl, Nat.le_of_ble_eq_true rfl⟩) ?_
                refine h_cast (ci := 4) (q := (RX5, TX5, 2)) hx hb hown (hts _ q699) hK rfl (isO.of (hW.k6 (t) (i) (by omega) (by omega))) dX1_first_63 ?_
                have b9 : N 9 (10 * t + i) < F 2 := hwf.1 _ _ (by omega) (by omega)
                refine h_getN hx hb hts in_X5 hown hK (hW.k6 (t) (i) (by omega) (by omega)) rfl 0 (by decide) q819 rfl (v := .ref (ad 3 (N 9 (10 * t + i)))) rfl dX1_first_66 ?_
                refine h_getN hx hb hts in_X3 hown hK (hW.k3 (N 9 (10 * t + i)) (by omega)) rfl 0 (by decide) q459 rfl (v := .int (iI (N 9 (10 * t + i)))) rfl dX1_first_69 ?_
                refine lv_iload_n hx hb dX1_first_72 rfl (lv_at hl 4 rfl) ?_
                refine ri_icmp_ne (tgt := 130) hx hb (by unfold inR; omega) (by unfold inR; omega) dX1_first_73 (by decide) (fun h10 => ?_) (fun h10 => ?_)
                · skip
                  refine lv_iinc (v := iI ((i + 1 : Nat))) (lv' := [(6, .int (iI ((i + 1 : Nat)))), (5, .ref (ad 4 (t))), (4, .int (iI (t))), (0, .ref (ad 0 (0))), (1, .int (iI (f))), (2, .int (iI (mi))), (3, .int (iI (n)))]) hx hb dX1_first_130 hl (k := 0) rfl (iI_succ _) (by decide) rfl (fun ls hl => ?_)
                  refine lv_goto (tgt := 32) hx hb dX1_first_133 (by decide) ?_
                  rw [show N 8 t - i = (N 8 t - (i + 1)) + 1 by omega, legsT, List.append_assoc, List.find?_append] at hf2
                  rw [show legsO N Z f mi t i = [] from by unfold legsO; exact if_neg (by omega)] at hf2
                  have hf2 : (legsT N Z f mi t (N 8 t - (i + 1)) (i + 1) ++ legsA N Z f mi (F 3 - (t + 1)) (t + 1)).find? (fP N (E 2) n) = some q := hf2
                  exact ih32 (i + 1) (by omega) hf2 (by omega) _ (lv_sub hl [0, 1, 2, 3, 4, 5, 6] rfl)
                · skip
                  refine lv_aload hx hb dX1_first_76 (lv_at hl 1 rfl) ?_
                  refine h_getN hx hb hts in_X4 hown hK (hW.k4 (t) (by omega)) rfl 2 (by decide) q533 rfl (v := .ref (ad 1 (10 + t))) rfl dX1_first_78 ?_
                  refine lv_iload hx hb dX1_first_81 (lv_at hl 0 rfl) ?_
                  obtain ⟨mc11, cp11, cq11, cr11, hLi11⟩ := (hW.lp (t) (by omega))
                  refine rc_V (W.runV (As := [.int (iI (i))]) (rest := []) ⟨hx, hb, hml, hown, hts⟩ (al_get l D cA (ad 1 (10 + t)) mc11 (ad 2 (10 + t)) (N 8 (t)) cp11 (fun j => ad 6 (10 * t + j)) (i) (by omega)) (cwV 1 hts (lw_V q565 q566 q567 q45 q568) rfl rfl rfl (by decide +kernel) ⟨Nat.le_of_ble_eq_true rfl, Nat.le_of_ble_eq_true rfl⟩) (preV hK hLi11.1 rfl hLi11) rfl rfl hl.1 rfl (lv_room (Nat.le_of_ble_eq_true rfl)) dX1_first_83 ⟨Nat.le_of_ble_eq_true rfl, Nat.le_of_ble_eq_true rfl⟩) ?_
                  refine h_cast (ci := 4) (q := (RX5, TX5, 2)) hx hb hown (hts _ q699) hK rfl (isO.of (hW.k6 (t) (i) (by omega) (by omega))) dX1_first_86 ?_
                  have b12 : N 10 (10 * t + i) ≤ 1439 := hN 10 _
                  refine h_getN hx hb hts in_X5 hown hK (hW.k6 (t) (i) (by omega) (by omega)) rfl 1 (by decide) q821 rfl (v := .int (iI (N 10 (10 * t + i)))) rfl dX1_first_89 ?_
                  refine lv_iload_n hx hb dX1_first_92 rfl (lv_at hl 5 rfl) ?_
                  refine ri_icmp_ge (tgt := 99) hx hb (by unfold inR; omega) (by unfold inR; omega) dX1_first_93 (by decide) (fun h13 => ?_) (fun h13 => ?_)
                  · skip
                    refine lv_aload_n hx hb dX1_first_99 rfl (lv_at hl 3 rfl) ?_
                    refine lv_aload hx hb dX1_first_100 (lv_at hl 1 rfl) ?_
                    refine lv_iload hx hb dX1_first_102 (lv_at hl 0 rfl) ?_
                    refine lv_iload_n hx hb dX1_first_104 rfl (lv_at hl 6 rfl) ?_
                    refine rc_V (W.runV (As := [.ref (ad 4 (t)), .int (iI (i)), .int (iI (n))]) (rest := []) ⟨hx, hb, hml, hown, hts⟩ (cc_X1_leads_2 l D cA A sa ad F N Z E K hKb hF hN hZ hwf t i n (by omega) (by omega) (by omega) (by omega) hcn heb2) (cwV 3 hts (lw_V q706 q708 qs8 q42 q709) rfl rfl rfl (by decide +kernel) ⟨Nat.le_of_ble_eq_true rfl, Nat.le_of_ble_eq_true rfl⟩) (preVC hK hSX hS hW.c0 rfl hW) rfl rfl hl.1 rfl (lv_room (Nat.le_of_ble_eq_true rfl)) dX1_first_105 ⟨Nat.le_of_ble_eq_true rfl, Nat.le_of_ble_eq_true rfl⟩) ?_
                    refine W.eq (g2 := F0 m 108 ls [.int (iI (ldF N Z (E 2) n t i))]) rfl ?_
                    have hldr := ldF_rng N Z (E 2) n t i
                    refine lv_istore (lv' := [(7, .int (iI (ldF N Z (E 2) n t i))), (6, .int (iI (i))), (5, .ref (ad 4 (t))), (4, .int (iI (t))), (0, .ref (ad 0 (0))), (1, .int (iI (f))), (2, .int (iI (mi))), (3, .int (iI (n)))]) hx hb dX1_first_108 hl (by decide) rfl (fun ls hl => ?_)
                    refine lv_iload hx hb dX1_first_110 (lv_at hl 0 rfl) ?_
                    refine lv_iconst (v := iI (-1)) hx hb dX1_first_112 rfl ?_
                    refine ri_icmp_eq (tgt := 130) hx hb (by unfold inR; omega) (by unfold inR; omega) dX1_first_113 (by decide) (fun hld => ?_) (fun hld => ?_)
                    · skip
                      refine lv_iinc (v := iI ((i + 1 : Nat))) (lv' := [(6, .int (iI ((i + 1 : Nat)))), (7, .int (iI (ldF N Z (E 2) n t i))), (5, .ref (ad 4 (t))), (4, .int (iI (t))), (0, .ref (ad 0 (0))), (1, .int (iI (f))), (2, .int (iI (mi))), (3, .int (iI (n)))]) hx hb dX1_first_130 hl (k := 1) rfl (iI_succ _) (by decide) rfl (fun ls hl => ?_)
                      refine lv_goto (tgt := 32) hx hb dX1_first_133 (by decide) ?_
                      rw [show N 8 t - i = (N 8 t - (i + 1)) + 1 by omega, legsT, List.append_assoc, List.find?_append] at hf2
                      rw [legsO_no hld] at hf2
                      have hf2 : (legsT N Z f mi t (N 8 t - (i + 1)) (i + 1) ++ legsA N Z f mi (F 3 - (t + 1)) (t + 1)).find? (fP N (E 2) n) = some q := hf2
                      exact ih32 (i + 1) (by omega) hf2 (by omega) _ (lv_sub hl [0, 2, 3, 4, 5, 6, 7] rfl)
                    · skip
                      obtain ⟨jj, hj1, hj2, hj3, hj4⟩ := legsO_yes (N := N) (Z := Z) (s := f) (m := mi) (t := t) (i := i) (n := n) (e := E 2) (by omega) (by omega) hld
                      rw [show N 8 t - i = (N 8 t - (i + 1)) + 1 by omega, legsT, List.append_assoc, List.find?_append] at hf2
                      rw [hj4] at hf2
                      have hqq : (t, i, jj) = q := Option.some.inj hf2
                      have hlt116 := hW.lt hF3 hN
                      have hgr116 := hW.2.2.2
                      refine h_new hx hb hts in_X8 tyX8 tyX8_ok hown (hts _ q714) (hts _ q715) (hts _ q72) hK hS (ci := 7) rfl (fs := [.null, .int (iI (0)), .int (iI (0))]) (fun j hj => by match j, hj with | 0, _ => rfl | 1, _ => rfl | 2, _ => rfl) (Nat.le_of_ble_eq_true rfl) (Nat.le_of_ble_eq_true rfl) dX1_first_116 (fun z H hq116 hXz o1 z1 hS => ?_)
                      have hAz : A z := hgr116 _ (by omega)
                      have hW := hW.keptL hF3 hN (by omega) (fun k i hl => o1 _ (hlt116 k i hl))
                      refine lv_dup hx hb dX1_first_119 rfl ?_
                      refine lv_aload hx hb dX1_first_120 (lv_at hl 2 rfl) ?_
                      refine lv_iload hx hb dX1_first_122 (lv_at hl 1 rfl) ?_
                      refine lv_iload hx hb dX1_first_124 (lv_at hl 0 rfl) ?_
                      refine rc_N (W.runI (As := [.ref (ad 4 (t)), .int (iI (i)), .int (iI (ldF N Z (E 2) n t i))]) (rest := [.ref z]) ⟨hx, hb, hml, hown, hts⟩ (cc_X8_init l D cA z ((ad 4 (t))) (i) (ldF N Z (E 2) n t i)) (cwI 3 hts (lw_meth q718) rfl rfl rfl (hts _ q72) (hts _ q716) (hts _ q717) rfl (by decide +kernel) ⟨Nat.le_of_ble_eq_true rfl, Nat.le_of_ble_eq_true rfl⟩) (preS hK hXz) rfl rfl hl.1 rfl (lv_room (Nat.le_of_ble_eq_true rfl)) dX1_first_126 ⟨Nat.le_of_ble_eq_true rfl, Nat.le_of_ble_eq_true rfl⟩) hS (fun q _ h => by rw [h]; exact hAz) (fun q h => by rw [h]; exact hAz) (fun H locs hXz hS hz hk => ?_)
                      have hW := hW.keptL hF3 hN hz (fun k i hl => hk _ (by have := hlt116 k i hl; omega) (by have := hlt116 k i hl; omega))
                      exact W.aret hx hb hr (Or.inl ⟨_, rfl⟩) (Or.inr ⟨_, rfl⟩) (fun tt htt hWm => ⟨⟨_, rfl, by rw [htt]; exact ⟨by omega, by rw [← hqq]; show va_at D CL (z, .inr (7, [.ref (ad 4 t), .int (iI (i : Int)), .int (iI (jj : Int))])) _; rw [← hj1]; exact hXz, hW⟩⟩, hS.F htt⟩) hS.2.2 dX1_first_129
                  · skip
                    refine lv_goto (tgt := 130) hx hb dX1_first_96 (by decide) ?_
                    refine lv_iinc (v := iI ((i + 1 : Nat))) (lv' := [(6, .int (iI ((i + 1 : Nat)))), (5, .ref (ad 4 (t))), (4, .int (iI (t))), (0, .ref (ad 0 (0))), (1, .int (iI (f))), (2, .int (iI (mi))), (3, .int (iI (n)))]) hx hb dX1_first_130 hl (k := 0) rfl (iI_succ _) (by decide) rfl (fun ls hl => ?_)
                    refine lv_goto (tgt := 32) hx hb dX1_first_133 (by decide) ?_
                    rw [show N 8 t - i = (N 8 t - (i + 1)) + 1 by omega, legsT, List.append_assoc, List.find?_append] at hf2
                    rw [show legsO N Z f mi t i = [] from by unfold legsO; exact if_neg (by omega)] at hf2
                    have hf2 : (legsT N Z f mi t (N 8 t - (i + 1)) (i + 1) ++ legsA N Z f mi (F 3 - (t + 1)) (t + 1)).find? (fP N (E 2) n) = some q := hf2
                    exact ih32 (i + 1) (by omega) hf2 (by omega) _ (lv_sub hl [0, 1, 2, 3, 4, 5, 6] rfl)
        exact lp32 _ (0) (Nat.zero_le _) hf (Nat.lt_succ_self _) _ (lv_sub hl [0, 1, 2, 3, 4, 5, 6] rfl)
  exact lp3 _ (0) (Nat.zero_le _) hfq (Nat.lt_succ_self _) _ (lv_sub hl [0, 1, 2, 3, 4] rfl)
