set_option maxRecDepth 100000
set_option maxHeartbeats 4000000 in
set_option maxRecDepth 100000 in
theorem mm_plan (l : Launch) (D : va_G) (cA : Nat → ClassId) (A : Nat → Prop) (o : Nat) (ad : Nat → Nat) (F G : Nat → Nat) (N X : Nat → Nat → Nat) (Z : Nat → Int) (K : Nat) (hKb : K ≤ 1000000) (hF : FB F) (hG : GB G) (hN : NB N) (hX : XB X) (hZ : ZB K Z) (hK6 : K + 200 ≤ 1000000) : Met l yX2_plan (ws_ yX2_plan cX2_plan 4 (some .int)) ({ frames := 8, cells := 0, slots := 0, locals := 209 }) (Pk D cA [.ref o] (MW D cA A o ad F G N X Z)) (Qi (fun z H' => ∃ G' X', GB G' ∧ XB X' ∧ z = (pIt F N Z (F 4)).2.2 ∧ NB (pIt F N Z (F 4)).1 ∧ ZB (K + 180) (pIt F N Z (F 4)).2.1 ∧ MW D cA A o ad (va_up F 0 0) G' (pIt F N Z (F 4)).1 X' (pIt F N Z (F 4)).2.1 H') A) 0 0 (A) := by
  refine Met.ofW (cc := cX2_plan) (maxL := 4) (ret := (some .int)) (by decide) rfl ?_
  intro p e s m args below meth c s₁ B hml hv
  obtain ⟨rfl, hK, hW⟩ := hv
  have hx := B.exec
  have hb := B.bytes
  have hr := B.returns
  have hts := atoms_spec (ws := ws_ yX2_plan cX2_plan 4 (some .int)) B.pre
  have hts : ∀ w ∈ lw_all, w.before _ s = true := fun w h => hts w (List.mem_cons_of_mem _ h)
  have hown : s.vm.findClass RX2 = some m.cls := findClass_of_methodNamed B.named
  have hlocks := B.notSynchronized
  have hl := lv_entry ([.ref o]) (n := 4) (Nat.le_of_ble_eq_true rfl)
  rw [lg_entry_eq]
  generalize (lg_sl ([.ref o]) ++ List.replicate (4 - (lg_sl ([.ref o])).length) Slot.unset).toArray = ls at hl ⊢
  have hl : lv_has ls 4 [(0, .ref o)] := hl
  have hS : va_S A s.heap s.heap [] := va_S.rf
  have hF4 : F 4 ≤ 60 := hF 4
  have hF3 : F 3 ≤ 16 := hF 3
  have hF1 : F 1 ≤ 1439 := hF 1
  refine lv_aload_n hx hb dX2_plan_0 rfl (lv_at hl 0 rfl) ?_
  refine lv_iconst (v := iI (0)) hx hb dX2_plan_1 rfl ?_
  refine m_put hx hb hts hown hK hW hS 0 (by decide) q974 rfl rfl rfl (0) rfl dX2_plan_2 (fun H locs hW hS => ?_)
  have hF : FB (va_up (F) 0 (0)) := hF.up (by show 0 ≤ 2; omega)
  have e1 : va_up F 0 0 1 = F 1 := rfl
  have e2 : va_up F 0 0 2 = F 2 := rfl
  have e3 : va_up F 0 0 3 = F 3 := rfl
  have e4 : va_up F 0 0 4 = F 4 := rfl
  have e5 : va_up F 0 0 5 = F 5 := rfl
  refine lv_iconst (v := iI (0)) hx hb dX2_plan_5 rfl ?_
  refine lv_istore_n (lv' := [(1, .int (iI (0))), (0, .ref o)]) hx hb dX2_plan_6 rfl hl (by decide) rfl (fun ls hl => ?_)
  refine lv_iconst (v := iI (0)) hx hb dX2_plan_7 rfl ?_
  refine lv_istore_n (lv' := [(2, .int (iI (0))), (1, .int (iI (0))), (0, .ref o)]) hx hb dX2_plan_8 rfl hl (by decide) rfl (fun ls hl => ?_)
  have lp9 : ∀ (fuel : Nat) (bv cn : Nat) (Gc : Nat → Nat) (Nc Xc : Nat → Nat → Nat) (Zc : Nat → Int) (hb4 : bv ≤ F 4) (hcn : cn ≤ bv) (hG : GB Gc) (hN : NB Nc) (hX : XB Xc) (hZ : ZB (K + 3 * bv) Zc) (hP : pIt F N Z bv = (Nc, Zc, cn)), F 4 - bv < fuel → ∀ (H : Heap) (locs : List Loc) (ls : Array Slot), MW D cA A o ad (va_up (F) 0 (0)) Gc Nc Xc Zc H → va_S A s.heap H locs → lv_has ls 4 [(2, .int (iI (bv))), (1, .int (iI (cn))), (0, .ref o)] → W p l e (headSpec (ws_ yX2_plan cX2_plan 4 (some .int)) ({ frames := 8, cells := 0, slots := 0, locals := 209 })).room s m ([.ref o] : List Value).toArray below meth c H locs 0 0 (MQ below (Qi (fun z H' => ∃ G' X', GB G' ∧ XB X' ∧ z = (pIt F N Z (F 4)).2.2 ∧ NB (pIt F N Z (F 4)).1 ∧ ZB (K + 180) (pIt F N Z (F 4)).2.1 ∧ MW D cA A o ad (va_up F 0 0) G' (pIt F N Z (F 4)).1 X' (pIt F N Z (F 4)).2.1 H') A) ([.ref o] : List Value).toArray s 0 0 (A)) (F0 m 9 ls []) := by
    intro fuel
    induction fuel with
    | zero => intro bv cn Gc Nc Xc Zc hb4 hcn hG hN hX hZ hP hm; exact absurd hm (Nat.not_lt_zero _)
    | succ fuel ih9 =>
      intro bv cn Gc Nc Xc Zc hb4 hcn hG hN hX hZ hP hm9 H locs ls hW hS hl
      refine lv_iload_n hx hb dX2_plan_9 rfl (lv_at hl 0 rfl) ?_
      refine lv_aload_n hx hb dX2_plan_10 rfl (lv_at hl 2 rfl) ?_
      refine m_get hx hb hts hown hK hW 4 (by decide) q978 rfl (v := .int (iI (F 4))) rfl dX2_plan_11 ?_
      have b1 : F 4 ≤ 60 := hF 4
      refine ri_icmp_ge (tgt := 124) hx hb (by unfold inR; omega) (by unfold inR; omega) dX2_plan_14 (by decide) (fun h2 => ?_) (fun h2 => ?_)
      · skip
        refine lv_iload_n hx hb dX2_plan_124 rfl (lv_at hl 1 rfl) ?_
        exact W.iret hx hb hr (fun t ht hWm => ⟨⟨_, rfl, by rw [ht]; exact ⟨Gc, Xc, hG, hX, by rw [show F 4 = bv by omega, hP]; exact ⟨rfl, hN, hZ.mono (by omega), hW⟩⟩⟩, hS.F ht⟩) hS.2.2 dX2_plan_125
      · skip
        refine lv_aload_n hx hb dX2_plan_17 rfl (lv_at hl 2 rfl) ?_
        refine lv_iload_n hx hb dX2_plan_18 rfl (lv_at hl 0 rfl) ?_
        refine rc_V (W.runV (As := [.int (iI (bv))]) (rest := []) ⟨hx, hb, hml, hown, hts⟩ (mm_wayOf l D cA A o ad (va_up (F) 0 (0)) Gc Nc Xc Zc _ (by omega) hF hG hN hX hZ bv (by omega)) (cwV 1 hts (lw_V q1125 q1127 qs18 q62 q1128) rfl rfl rfl (by decide +kernel) ⟨Nat.le_of_ble_eq_true rfl, Nat.le_of_ble_eq_true rfl⟩) (preV hK hW.1 rfl hW) rfl rfl hl.1 rfl (lv_room (Nat.le_of_ble_eq_true rfl)) dX2_plan_19 ⟨Nat.le_of_ble_eq_true rfl, Nat.le_of_ble_eq_true rfl⟩) ?_
        have b3 : wayN Nc bv < 120 := wayN_lt hN (by omega)
        refine lv_istore_n (lv' := [(3, .int (iI (wayN Nc bv))), (2, .int (iI (bv))), (1, .int (iI (cn))), (0, .ref o)]) hx hb dX2_plan_22 rfl hl (by decide) rfl (fun ls hl => ?_)
        refine lv_aload_n hx hb dX2_plan_23 rfl (lv_at hl 3 rfl) ?_
        refine m_get hx hb hts hown hK hW 25 (by decide) q999 rfl (v := .ref (ad 25)) rfl dX2_plan_24 ?_
        refine lv_iload_n hx hb dX2_plan_27 rfl (lv_at hl 0 rfl) ?_
        refine h_iald hx hb hK hW.a25 (wayN Nc bv) (by omega) (by omega) (by decide) dX2_plan_28 ?_
        have b4 : Nc 25 (wayN Nc bv) ≤ 10 := hN 25 (wayN Nc bv)
        refine lv_iconst (v := iI (-1)) hx hb dX2_plan_29 rfl ?_
        refine ri_icmp_eq (tgt := 71) hx hb (by unfold inR; omega) (by unfold inR; omega) dX2_plan_30 (by decide) (fun h5 => ?_) (fun h5 => ?_)
        · skip
          refine lv_aload_n hx hb dX2_plan_71 rfl (lv_at hl 3 rfl) ?_
          refine m_get hx hb hts hown hK hW 22 (by decide) q996 rfl (v := .ref (ad 22)) rfl dX2_plan_72 ?_
          refine lv_iload_n hx hb dX2_plan_75 rfl (lv_at hl 0 rfl) ?_
          refine h_zald hx hb hK hW.a22 (wayN Nc bv) (by omega) (by omega) (by decide) dX2_plan_76 ?_
          have b6 : Nc 22 (wayN Nc bv) ≤ 1 := hN 22 (wayN Nc bv)
          refine ri_if_ne (tgt := 118) hx hb (by unfold inR; omega) dX2_plan_77 (by decide) (fun h7 => ?_) (fun h7 => ?_)
          · skip
            refine lv_iinc (v := iI ((bv + 1 : Nat))) (lv' := [(2, .int (iI ((bv + 1 : Nat)))), (3, .int (iI (wayN Nc bv))), (1, .int (iI (cn))), (0, .ref o)]) hx hb dX2_plan_118 hl (k := 1) rfl (iI_succ _) (by decide) rfl (fun ls hl => ?_)
            refine lv_goto (tgt := 9) hx hb dX2_plan_121 (by decide) ?_
            have hP2 : pIt F N Z (bv + 1) = (Nc, Zc, cn) := by
              show pStep F (pIt F N Z bv) bv = _
              rw [hP]; unfold pStep; dsimp only; rw [if_neg (by omega), if_neg (by omega)]
            have hZ := hZ.mono (show K + 3 * bv ≤ K + 3 * (bv + 1) by omega)
            exact ih9 (bv + 1) (cn) (Gc) (Nc) (Xc) (Zc) (by omega) (by omega) hG hN hX hZ hP2 (by omega) _ _ _ hW hS (lv_sub hl [0, 2, 3] rfl)
          · skip
            refine lv_aload_n hx hb dX2_plan_80 rfl (lv_at hl 3 rfl) ?_
            refine lv_iload_n hx hb dX2_plan_81 rfl (lv_at hl 1 rfl) ?_
            refine rc_V (W.runV (As := [.int (iI (bv))]) (rest := []) ⟨hx, hb, hml, hown, hts⟩ (mm_readyOf l D cA A o ad (va_up (F) 0 (0)) Gc Nc Xc Zc _ (by omega) hF hG hN hX hZ bv (by omega)) (cwV 1 hts (lw_V q1170 q1172 qs28 q62 q1173) rfl rfl rfl (by decide +kernel) ⟨Nat.le_of_ble_eq_true rfl, Nat.le_of_ble_eq_true rfl⟩) (preV hK hW.1 rfl hW) rfl rfl hl.1 rfl (lv_room (Nat.le_of_ble_eq_true rfl)) dX2_plan_82 ⟨Nat.le_of_ble_eq_true rfl, Nat.le_of_ble_eq_true rfl⟩) ?_
            have b8 : rdN Nc bv ≤ 1439 := rdN_le hN _
            refine lv_aload_n hx hb dX2_plan_85 rfl (lv_at hl 3 rfl) ?_
            refine m_get hx hb hts hown hK hW 1 (by decide) q975 rfl (v := .int (iI (F 1))) rfl dX2_plan_86 ?_
            have b9 : F 1 ≤ 1439 := hF 1
            refine ri_icmp_lt (tgt := 118) hx hb (by unfold inR; omega) (by unfold inR; omega) dX2_plan_89 (by decide) (fun h10 => ?_) (fun h10 => ?_)
            · skip
              refine lv_iinc (v := iI ((bv + 1 : Nat))) (lv' := [(2, .int (iI ((bv + 1 : Nat)))), (3, .int (iI (wayN Nc bv))), (1, .int (iI (cn))), (0, .ref o)]) hx hb dX2_plan_118 hl (k := 1) rfl (iI_succ _) (by decide) rfl (fun ls hl => ?_)
              refine lv_goto (tgt := 9) hx hb dX2_plan_121 (by decide) ?_
              have hP2 : pIt F N Z (bv + 1) = (Nc, Zc, cn) := by
                show pStep F (pIt F N Z bv) bv = _
                rw [hP]; unfold pStep; dsimp only; rw [if_neg (by omega), if_neg (by omega)]
              have hZ := hZ.mono (show K + 3 * bv ≤ K + 3 * (bv + 1) by omega)
              exact ih9 (bv + 1) (cn) (Gc) (Nc) (Xc) (Zc) (by omega) (by omega) hG hN hX hZ hP2 (by omega) _ _ _ hW hS (lv_sub hl [0, 2, 3] rfl)
            · skip
              refine lv_iload_n hx hb dX2_plan_92 rfl (lv_at hl 2 rfl) ?_
              refine lv_aload_n hx hb dX2_plan_93 rfl (lv_at hl 3 rfl) ?_
              refine lv_iload_n hx hb dX2_plan_94 rfl (lv_at hl 1 rfl) ?_
              refine lv_aload_n hx hb dX2_plan_95 rfl (lv_at hl 3 rfl) ?_
              refine lv_iload_n hx hb dX2_plan_96 rfl (lv_at hl 1 rfl) ?_
              refine rc_V (W.runV (As := [.int (iI (bv))]) (rest := [.int (iI (bv)), .ref o, .int (iI (cn))]) ⟨hx, hb, hml, hown, hts⟩ (mm_fromOf l D cA A o ad (va_up (F) 0 (0)) Gc Nc Xc Zc _ (by omega) hF hG hN hX hZ bv (by omega)) (cwV 1 hts (lw_V q1174 q1176 qs29 q62 q1177) rfl rfl rfl (by decide +kernel) ⟨Nat.le_of_ble_eq_true rfl, Nat.le_of_ble_eq_true rfl⟩) (preV hK hW.1 rfl hW) rfl rfl hl.1 rfl (lv_room (Nat.le_of_ble_eq_true rfl)) dX2_plan_97 ⟨Nat.le_of_ble_eq_true rfl, Nat.le_of_ble_eq_true rfl⟩) ?_
              have b11 : frN Nc bv ≤ 9 := frN_lt hN _
              refine lv_aload_n hx hb dX2_plan_100 rfl (lv_at hl 3 rfl) ?_
              refine lv_iload_n hx hb dX2_plan_101 rfl (lv_at hl 1 rfl) ?_
              refine rc_V (W.runV (As := [.int (iI (bv))]) (rest := [.int (iI (frN Nc bv)), .int (iI (bv)), .ref o, .int (iI (cn))]) ⟨hx, hb, hml, hown, hts⟩ (mm_sortedAt l D cA A o ad (va_up (F) 0 (0)) Gc Nc Xc Zc _ (by omega) hF hG hN hX hZ bv (by omega)) (cwV 1 hts (lw_V q1178 q1180 qs30 q62 q1181) rfl rfl rfl (by decide +kernel) ⟨Nat.le_of_ble_eq_true rfl, Nat.le_of_ble_eq_true rfl⟩) (preV hK hW.1 rfl hW) rfl rfl hl.1 rfl (lv_room (Nat.le_of_ble_eq_true rfl)) dX2_plan_102 ⟨Nat.le_of_ble_eq_true rfl, Nat.le_of_ble_eq_true rfl⟩) ?_
              have b12 : srtN Nc bv ≤ 1619 := srtN_le hN _
              refine rc_I (W.runV (As := [.int (iI (bv)), .int (iI ((frN Nc bv : Nat))), .int (iI ((srtN Nc bv : Nat)))]) (rest := [.int (iI (cn))]) ⟨hx, hb, hml, hown, hts⟩ (mm_leadOn l D cA A o ad (va_up (F) 0 (0)) Gc Nc Xc Zc _ (by omega) hF hG hN hX hZ bv (frN Nc bv) (srtN Nc bv) (by omega) (by omega) (by omega) (by omega)) (cwV 3 hts (lw_V q1130 q1132 qs19 q62 q1133) rfl rfl rfl (by decide +kernel) ⟨Nat.le_of_ble_eq_true rfl, Nat.le_of_ble_eq_true rfl⟩) (preV hK hW.1 rfl hW) rfl rfl hl.1 rfl (lv_room (Nat.le_of_ble_eq_true rfl)) dX2_plan_105 ⟨Nat.le_of_ble_eq_true rfl, Nat.le_of_ble_eq_true rfl⟩) hS (fun _ _ h => h) (fun _ h => h) (fun z H locs hq hS hz hk => ?_)
              obtain ⟨Gr, Xr, hG, hX, h37r, hzr, hN, hZ, hW⟩ := hq
              have hle := ldOn_le (T := F 3) (N := Nc) (Z := Zc) (b := bv) (s := (frN Nc bv)) (m := (srtN Nc bv))
              have hl0 := ldOn_0 (T := F 3) (N := Nc) (Z := Zc) (b := bv) (s := (frN Nc bv)) (m := (srtN Nc bv))
              have hzr : z = ((ldOn (F 3) Nc Zc bv (frN Nc bv) (srtN Nc bv)).2.2 : Int) := hzr
              have hN : NB (ldOn (F 3) Nc Zc bv (frN Nc bv) (srtN Nc bv)).1 := hN
              have hW : MW D cA A o ad (va_up F 0 0) Gr (ldOn (F 3) Nc Zc bv (frN Nc bv) (srtN Nc bv)).1 Xr (ldOn (F 3) Nc Zc bv (frN Nc bv) (srtN Nc bv)).2.1 H := hW
              have hZ : ZB _ (ldOn (F 3) Nc Zc bv (frN Nc bv) (srtN Nc bv)).2.1 := hZ
              generalize hrr : ldOn (F 3) Nc Zc bv (frN Nc bv) (srtN Nc bv) = r at hzr hle hl0 hN hZ hW
              subst hzr
              refine ri_if_eq (tgt := 115) hx hb (by unfold inR; omega) dX2_plan_108 (by decide) (fun h13 => ?_) (fun h13 => ?_)
              · skip
                refine lv_iconst (v := iI (0)) hx hb dX2_plan_115 rfl ?_
                refine ri_iadd hx hb dX2_plan_116 ?_
                refine ri_top (b := (cn + r.2.2 : Nat)) (by omega) ?_
                refine lv_istore_n (lv' := [(1, .int (iI ((cn + r.2.2 : Nat)))), (3, .int (iI (wayN Nc bv))), (2, .int (iI (bv))), (0, .ref o)]) hx hb dX2_plan_117 rfl hl (by decide) rfl (fun ls hl => ?_)
                refine lv_iinc (v := iI ((bv + 1 : Nat))) (lv' := [(2, .int (iI ((bv + 1 : Nat)))), (1, .int (iI ((cn + r.2.2 : Nat)))), (3, .int (iI (wayN Nc bv))), (0, .ref o)]) hx hb dX2_plan_118 hl (k := 2) rfl (iI_succ _) (by decide) rfl (fun ls hl => ?_)
                refine lv_goto (tgt := 9) hx hb dX2_plan_121 (by decide) ?_
                have hP2 : pIt F N Z (bv + 1) = (r.1, r.2.1, cn + r.2.2) := by
                  show pStep F (pIt F N Z bv) bv = _
                  rw [hP]; unfold pStep; dsimp only; first | (rw [if_pos (by omega), hrr]) | (rw [if_neg (by omega), if_pos (by omega), hrr])
                have hZ := hZ.mono (show K + 3 * bv + 3 ≤ K + 3 * (bv + 1) by omega)
                exact ih9 (bv + 1) (cn + r.2.2) (Gr) (r.1) (Xr) (r.2.1) (by omega) (by omega) hG hN hX hZ hP2 (by omega) _ _ _ hW hS (lv_sub hl [0, 1, 3] rfl)
              · skip
                refine lv_iconst (v := iI (1)) hx hb dX2_plan_111 rfl ?_
                refine lv_goto (tgt := 116) hx hb dX2_plan_112 (by decide) ?_
                refine ri_iadd hx hb dX2_plan_116 ?_
                refine ri_top (b := (cn + r.2.2 : Nat)) (by omega) ?_
                refine lv_istore_n (lv' := [(1, .int (iI ((cn + r.2.2 : Nat)))), (3, .int (iI (wayN Nc bv))), (2, .int (iI (bv))), (0, .ref o)]) hx hb dX2_plan_117 rfl hl (by decide) rfl (fun ls hl => ?_)
                refine lv_iinc (v := iI ((bv + 1 : Nat))) (lv' := [(2, .int (iI ((bv + 1 : Nat)))), (1, .int (iI ((cn + r.2.2 : Nat)))), (3, .int (iI (wayN Nc bv))), (0, .ref o)]) hx hb dX2_plan_118 hl (k := 2) rfl (iI_succ _) (by decide) rfl (fun ls hl => ?_)
                refine lv_goto (tgt := 9) hx hb dX2_plan_121 (by decide) ?_
                have hP2 : pIt F N Z (bv + 1) = (r.1, r.2.1, cn + r.2.2) := by
                  show pStep F (pIt F N Z bv) bv = _
                  rw [hP]; unfold pStep; dsimp only; first | (rw [if_pos (by omega), hrr]) | (rw [if_neg (by omega), if_pos (by omega), hrr])
                have hZ := hZ.mono (show K + 3 * bv + 3 ≤ K + 3 * (bv + 1) by omega)
                exact ih9 (bv + 1) (cn + r.2.2) (Gr) (r.1) (Xr) (r.2.1) (by omega) (by omega) hG hN hX hZ hP2 (by omega) _ _ _ hW hS (lv_sub hl [0, 1, 3] rfl)
        · skip
          refine lv_iload_n hx hb dX2_plan_33 rfl (lv_at hl 2 rfl) ?_
          refine lv_aload_n hx hb dX2_plan_34 rfl (lv_at hl 3 rfl) ?_
          refine lv_iload_n hx hb dX2_plan_35 rfl (lv_at hl 1 rfl) ?_
          refine lv_aload_n hx hb dX2_plan_36 rfl (lv_at hl 3 rfl) ?_
          refine m_get hx hb hts hown hK hW 25 (by decide) q999 rfl (v := .ref (ad 25)) rfl dX2_plan_37 ?_
          refine lv_iload_n hx hb dX2_plan_40 rfl (lv_at hl 0 rfl) ?_
          refine h_iald hx hb hK hW.a25 (wayN Nc bv) (by omega) (by omega) (by decide) dX2_plan_41 ?_
          refine ri_top (b := (Nc 25 (wayN Nc bv) - 1 : Nat)) (by omega) ?_
          refine lv_aload_n hx hb dX2_plan_42 rfl (lv_at hl 3 rfl) ?_
          refine m_get hx hb hts hown hK hW 1 (by decide) q975 rfl (v := .int (iI (F 1))) rfl dX2_plan_43 ?_
          have b14 : F 1 ≤ 1439 := hF 1
          refine lv_aload_n hx hb dX2_plan_46 rfl (lv_at hl 3 rfl) ?_
          refine m_get hx hb hts hown hK hW 26 (by decide) q1000 rfl (v := .ref (ad 26)) rfl dX2_plan_47 ?_
          refine lv_iload_n hx hb dX2_plan_50 rfl (lv_at hl 0 rfl) ?_
          refine h_iald hx hb hK hW.a26 (wayN Nc bv) (by omega) (by omega) (by decide) dX2_plan_51 ?_
          have b15 : Nc 26 (wayN Nc bv) ≤ 2000 := hN 26 (wayN Nc bv)
          refine ri_mmax hx hb hml hl.1 hown (hts _ q1129) (hts _ q194) (hts _ q55) (hts _ q195) (by unfold inR; omega) (by unfold inR; omega) (Nat.le_of_ble_eq_true rfl) (Nat.le_of_ble_eq_true rfl) (Nat.le_of_ble_eq_true rfl) (Nat.le_of_ble_eq_true rfl) dX2_plan_52 ?_
          refine ri_top (b := (((max (F 1) (Nc 26 (wayN Nc bv))) : Nat) : Int)) (max_eq _ _) ?_
          refine rc_I (W.runV (As := [.int (iI (bv)), .int (iI ((Nc 25 (wayN Nc bv) - 1 : Nat))), .int (iI (((max (F 1) (Nc 26 (wayN Nc bv))) : Nat)))]) (rest := [.int (iI (cn))]) ⟨hx, hb, hml, hown, hts⟩ (mm_leadOn l D cA A o ad (va_up (F) 0 (0)) Gc Nc Xc Zc _ (by omega) hF hG hN hX hZ bv (Nc 25 (wayN Nc bv) - 1) ((max (F 1) (Nc 26 (wayN Nc bv)))) (by omega) (by omega) (by omega) (by omega)) (cwV 3 hts (lw_V q1130 q1132 qs19 q62 q1133) rfl rfl rfl (by decide +kernel) ⟨Nat.le_of_ble_eq_true rfl, Nat.le_of_ble_eq_true rfl⟩) (preV hK hW.1 rfl hW) rfl rfl hl.1 rfl (lv_room (Nat.le_of_ble_eq_true rfl)) dX2_plan_55 ⟨Nat.le_of_ble_eq_true rfl, Nat.le_of_ble_eq_true rfl⟩) hS (fun _ _ h => h) (fun _ h => h) (fun z H locs hq hS hz hk => ?_)
          obtain ⟨Gr, Xr, hG, hX, h37r, hzr, hN, hZ, hW⟩ := hq
          have hle := ldOn_le (T := F 3) (N := Nc) (Z := Zc) (b := bv) (s := (Nc 25 (wayN Nc bv) - 1)) (m := (max (F 1) (Nc 26 (wayN Nc bv))))
          have hl0 := ldOn_0 (T := F 3) (N := Nc) (Z := Zc) (b := bv) (s := (Nc 25 (wayN Nc bv) - 1)) (m := (max (F 1) (Nc 26 (wayN Nc bv))))
          have hzr : z = ((ldOn (F 3) Nc Zc bv (Nc 25 (wayN Nc bv) - 1) (max (F 1) (Nc 26 (wayN Nc bv)))).2.2 : Int) := hzr
          have hN : NB (ldOn (F 3) Nc Zc bv (Nc 25 (wayN Nc bv) - 1) (max (F 1) (Nc 26 (wayN Nc bv)))).1 := hN
          have hW : MW D cA A o ad (va_up F 0 0) Gr (ldOn (F 3) Nc Zc bv (Nc 25 (wayN Nc bv) - 1) (max (F 1) (Nc 26 (wayN Nc bv)))).1 Xr (ldOn (F 3) Nc Zc bv (Nc 25 (wayN Nc bv) - 1) (max (F 1) (Nc 26 (wayN Nc bv)))).2.1 H := hW
          have hZ : ZB _ (ldOn (F 3) Nc Zc bv (Nc 25 (wayN Nc bv) - 1) (max (F 1) (Nc 26 (wayN Nc bv)))).2.1 := hZ
          generalize hrr : ldOn (F 3) Nc Zc bv (Nc 25 (wayN Nc bv) - 1) (max (F 1) (Nc 26 (wayN Nc bv))) = r at hzr hle hl0 hN hZ hW
          subst hzr
          refine ri_if_eq (tgt := 65) hx hb (by unfold inR; omega) dX2_plan_58 (by decide) (fun h16 => ?_) (fun h16 => ?_)
          · skip
            refine lv_iconst (v := iI (0)) hx hb dX2_plan_65 rfl ?_
            refine ri_iadd hx hb dX2_plan_66 ?_
            refine ri_top (b := (cn + r.2.2 : Nat)) (by omega) ?_
            refine lv_istore_n (lv' := [(1, .int (iI ((cn + r.2.2 : Nat)))), (3, .int (iI (wayN Nc bv))), (2, .int (iI (bv))), (0, .ref o)]) hx hb dX2_plan_67 rfl hl (by decide) rfl (fun ls hl => ?_)
            refine lv_goto (tgt := 118) hx hb dX2_plan_68 (by decide) ?_
            refine lv_iinc (v := iI ((bv + 1 : Nat))) (lv' := [(2, .int (iI ((bv + 1 : Nat)))), (1, .int (iI ((cn + r.2.2 : Nat)))), (3, .int (iI (wayN Nc bv))), (0, .ref o)]) hx hb dX2_plan_118 hl (k := 2) rfl (iI_succ _) (by decide) rfl (fun ls hl => ?_)
            refine lv_goto (tgt := 9) hx hb dX2_plan_121 (by decide) ?_
            have hP2 : pIt F N Z (bv + 1) = (r.1, r.2.1, cn + r.2.2) := by
              show pStep F (pIt F N Z bv) bv = _
              rw [hP]; unfold pStep; dsimp only; first | (rw [if_pos (by omega), hrr]) | (rw [if_neg (by omega), if_pos (by omega), hrr])
            have hZ := hZ.mono (show K + 3 * bv + 3 ≤ K + 3 * (bv + 1) by omega)
            exact ih9 (bv + 1) (cn + r.2.2) (Gr) (r.1) (Xr) (r.2.1) (by omega) (by omega) hG hN hX hZ hP2 (by omega) _ _ _ hW hS (lv_sub hl [0, 1, 3] rfl)
          · skip
            refine lv_iconst (v := iI (1)) hx hb dX2_plan_61 rfl ?_
            refine lv_goto (tgt := 66) hx hb dX2_plan_62 (by decide) ?_
            refine ri_iadd hx hb dX2_plan_66 ?_
            refine ri_top (b := (cn + r.2.2 : Nat)) (by omega) ?_
            refine lv_istore_n (lv' := [(1, .int (iI ((cn + r.2.2 : Nat)))), (3, .int (iI (wayN Nc bv))), (2, .int (iI (bv))), (0, .ref o)]) hx hb dX2_plan_67 rfl hl (by decide) rfl (fun ls hl => ?_)
            refine lv_goto (tgt := 118) hx hb dX2_plan_68 (by decide) ?_
            refine lv_iinc (v := iI ((bv + 1 : Nat))) (lv' := [(2, .int (iI ((bv + 1 : Nat)))), (1, .int (iI ((cn + r.2.2 : Nat)))), (3, .int (iI (wayN Nc bv))), (0, .ref o)]) hx hb dX2_plan_118 hl (k := 2) rfl (iI_succ _) (by decide) rfl (fun ls hl => ?_)
            refine lv_goto (tgt := 9) hx hb dX2_plan_121 (by decide) ?_
            have hP2 : pIt F N Z (bv + 1) = (r.1, r.2.1, cn + r.2.2) := by
              show pStep F (pIt F N Z bv) bv = _
              rw [hP]; unfold pStep; dsimp only; first | (rw [if_pos (by omega), hrr]) | (rw [if_neg (by omega), if_pos (by omega), hrr])
            have hZ := hZ.mono (show K + 3 * bv + 3 ≤ K + 3 * (bv + 1) by omega)
            exact ih9 (bv + 1) (cn + r.2.2) (Gr) (r.1) (Xr) (r.2.1) (by omega) (by omega) hG hN hX hZ hP2 (by omega) _ _ _ hW hS (lv_sub hl [0, 1, 3] rfl)
  exact lp9 _ (0) (0) (G) (N) (X) (Z) (by omega) (by omega) hG hN hX hZ rfl (Nat.lt_succ_self _) _ _ _ hW hS (lv_sub hl [0, 1, 2] rfl)

set_option maxHeartbeats 4000000 in
set_option maxRecDepth 100000 in
theorem mm_cancel (l : Launch) (D : va_G) (cA : Nat → ClassId) (A : Nat → Prop) (o : Nat) (ad : Nat → Nat) (F G : Nat → Nat) (N X : Nat → Nat → Nat) (Z : Nat → Int) (K : Nat) (hKb : K ≤ 1000000) (hF : FB F) (hG : GB G) (hN : NB N) (hX : XB X) (hZ : ZB K Z) (t : Nat) (ht3 : t < F 3) (hK6 : K + 400 ≤ 1000000) : Met l yX2_cancel (ws_ yX2_cancel cX2_cancel 8 (some .int)) ({ frames := 8, cells := 0, slots := 0, locals := 209 }) (Pk D cA [.ref o, .int (iI (t))] (MW D cA A o ad F G N X Z)) (Qi (fun z H' => ((N 13 t = 0 ∧ N 8 t ≠ 0 ∧ F 1 < N 10 (10 * t + 0)) → ∃ G' X', GB G' ∧ XB X' ∧ z = (c1It t (up2 N 13 t 1) Z (X 37) (F 4)).2.2.2 ∧ NB (c2It F (c1It t (up2 N 13 t 1) Z (X 37) (F 4)).2.2.1 (c1It t (up2 N 13 t 1) Z (X 37) (F 4)).1 (c1It t (up2 N 13 t 1) Z (X 37) (F 4)).2.1 (F 4)).1 ∧ ZB (K + 360) (c2It F (c1It t (up2 N 13 t 1) Z (X 37) (F 4)).2.2.1 (c1It t (up2 N 13 t 1) Z (X 37) (F 4)).1 (c1It t (up2 N 13 t 1) Z (X 37) (F 4)).2.1 (F 4)).2 ∧ MW D cA A o ad (va_up F 0 0) G' (c2It F (c1It t (up2 N 13 t 1) Z (X 37) (F 4)).2.2.1 (c1It t (up2 N 13 t 1) Z (X 37) (F 4)).1 (c1It t (up2 N 13 t 1) Z (X 37) (F 4)).2.1 (F 4)).1 X' (c2It F (c1It t (up2 N 13 t 1) Z (X 37) (F 4)).2.2.1 (c1It t (up2 N 13 t 1) Z (X 37) (F 4)).1 (c1It t (up2 N 13 t 1) Z (X 37) (F 4)).2.1 (F 4)).2 H') ∧ (¬ (N 13 t = 0 ∧ N 8 t ≠ 0 ∧ F 1 < N 10 (10 * t + 0)) → z = -1 ∧ MW D cA A o ad (va_up F 0 0) G N X Z H')) A) 0 0 (A) := by
  refine Met.ofW (cc := cX2_cancel) (maxL := 8) (ret := (some .int)) (by decide) rfl ?_
  intro p e s m args below meth c s₁ B hml hv
  obtain ⟨rfl, hK, hW⟩ := hv
  have hx := B.exec
  have hb := B.bytes
  have hr := B.returns
  have hts := atoms_spec (ws := ws_ yX2_cancel cX2_cancel 8 (some .int)) B.pre
  have hts : ∀ w ∈ lw_all, w.before _ s = true := fun w h => hts w (List.mem_cons_of_mem _ h)
  have hown : s.vm.findClass RX2 = some m.cls := findClass_of_methodNamed B.named
  have hlocks := B.notSynchronized
  have hl := lv_entry ([.ref o, .int (iI (t))]) (n := 8) (Nat.le_of_ble_eq_true rfl)
  rw [lg_entry_eq]
  generalize (lg_sl ([.ref o, .int (iI (t))]) ++ List.replicate (8 - (lg_sl ([.ref o, .int (iI (t))])).length) Slot.unset).toArray = ls at hl ⊢
  have hl : lv_has ls 8 [(0, .ref o), (1, .int (iI (t)))] := hl
  have hS : va_S A s.heap s.heap [] := va_S.rf
  have hF4 : F 4 ≤ 60 := hF 4
  have hF3 : F 3 ≤ 16 := hF 3
  have hF1 : F 1 ≤ 1439 := hF 1
  have h13 : N 13 t ≤ 1 := hN 13 t
  refine lv_aload_n hx hb dX2_cancel_0 rfl (lv_at hl 0 rfl) ?_
  refine lv_iconst (v := iI (0)) hx hb dX2_cancel_1 rfl ?_
  refine m_put hx hb hts hown hK hW hS 0 (by decide) q974 rfl rfl rfl (0) rfl dX2_cancel_2 (fun H locs hW hS => ?_)
  have hF : FB (va_up (F) 0 (0)) := hF.up (by show 0 ≤ 2; omega)
  have e1 : va_up F 0 0 1 = F 1 := rfl
  have e2 : va_up F 0 0 2 = F 2 := rfl
  have e3 : va_up F 0 0 3 = F 3 := rfl
  have e4 : va_up F 0 0 4 = F 4 := rfl
  have e5 : va_up F 0 0 5 = F 5 := rfl
  refine lv_aload_n hx hb dX2_cancel_5 rfl (lv_at hl 0 rfl) ?_
  refine lv_iload_n hx hb dX2_cancel_6 rfl (lv_at hl 1 rfl) ?_
  refine rc_V (W.runV (As := [.int (iI (t))]) (rest := []) ⟨hx, hb, hml, hown, hts⟩ (mm_isTrain l D cA A o ad (va_up (F) 0 (0)) G N X Z _ (by omega) hF hG hN hX hZ t (by unfold inR; omega)) (cwV 1 hts (lw_V q1106 q1108 qs16 q62 q1109) rfl rfl rfl (by decide +kernel) ⟨Nat.le_of_ble_eq_true rfl, Nat.le_of_ble_eq_true rfl⟩) (preV hK hW.1 rfl hW) rfl rfl hl.1 rfl (lv_room (Nat.le_of_ble_eq_true rfl)) dX2_cancel_7 ⟨Nat.le_of_ble_eq_true rfl, Nat.le_of_ble_eq_true rfl⟩) ?_
  rw [if_pos (show 0 ≤ (t : Int) ∧ (t : Int) < ((va_up (F) 0 (0)) 3 : Nat) from by omega)]
  refine ri_if_ne (tgt := 18) hx hb (by unfold inR; omega) dX2_cancel_10 (by decide) (fun h2 => ?_) (fun h2 => ?_)
  · skip
    refine lv_aload_n hx hb dX2_cancel_18 rfl (lv_at hl 0 rfl) ?_
    refine m_get hx hb hts hown hK hW 13 (by decide) q987 rfl (v := .ref (ad 13)) rfl dX2_cancel_19 ?_
    refine lv_iload_n hx hb dX2_cancel_22 rfl (lv_at hl 1 rfl) ?_
    refine h_zald hx hb hK hW.a13 (t) (by omega) (by omega) (by decide) dX2_cancel_23 ?_
    have b3 : N 13 (t) ≤ 1 := hN 13 (t)
    refine ri_if_ne (tgt := 53) hx hb (by unfold inR; omega) dX2_cancel_24 (by decide) (fun h4 => ?_) (fun h4 => ?_)
    · skip
      refine lv_iconst (v := iI (-1)) hx hb dX2_cancel_53 rfl ?_
      exact W.iret hx hb hr (fun t ht hWm => ⟨⟨_, rfl, by rw [ht]; exact ⟨fun q => absurd q (by omega), fun _ => ⟨rfl, hW⟩⟩⟩, hS.F ht⟩) hS.2.2 dX2_cancel_54
    · skip
      refine lv_aload_n hx hb dX2_cancel_27 rfl (lv_at hl 0 rfl) ?_
      refine m_get hx hb hts hown hK hW 8 (by decide) q982 rfl (v := .ref (ad 8)) rfl dX2_cancel_28 ?_
      refine lv_iload_n hx hb dX2_cancel_31 rfl (lv_at hl 1 rfl) ?_
      refine h_iald hx hb hK hW.a8 (t) (by omega) (by omega) (by decide) dX2_cancel_32 ?_
      have b5 : N 8 (t) ≤ 10 := hN 8 (t)
      refine ri_if_eq (tgt := 53) hx hb (by unfold inR; omega) dX2_cancel_33 (by decide) (fun h6 => ?_) (fun h6 => ?_)
      · skip
        refine lv_iconst (v := iI (-1)) hx hb dX2_cancel_53 rfl ?_
        exact W.iret hx hb hr (fun t ht hWm => ⟨⟨_, rfl, by rw [ht]; exact ⟨fun q => absurd q (by omega), fun _ => ⟨rfl, hW⟩⟩⟩, hS.F ht⟩) hS.2.2 dX2_cancel_54
      · skip
        refine lv_aload_n hx hb dX2_cancel_36 rfl (lv_at hl 0 rfl) ?_
        refine m_get hx hb hts hown hK hW 10 (by decide) q984 rfl (v := .ref (ad 10)) rfl dX2_cancel_37 ?_
        refine lv_iload_n hx hb dX2_cancel_40 rfl (lv_at hl 1 rfl) ?_
        refine lv_iconst (v := iI (0)) hx hb dX2_cancel_41 rfl ?_
        refine rc_V (W.runS (As := [.int (iI (t)), .int (iI (0))]) (rest := [.ref (ad 10)]) ⟨hx, hb, hml, hown, hts⟩ (mm_node l D cA t 0 ) (va_cwS 2 hts (lw_S q1114 q1115 q62 q1116) rfl rfl rfl (by decide +kernel) ⟨Nat.le_of_ble_eq_true rfl, Nat.le_of_ble_eq_true rfl⟩) (preS hK (B := fun _ => True) trivial) rfl rfl hl.1 rfl (lv_room (Nat.le_of_ble_eq_true rfl)) dX2_cancel_42 ⟨Nat.le_of_ble_eq_true rfl, Nat.le_of_ble_eq_true rfl⟩) ?_
        refine ri_top (b := (10 * t + 0 : Nat)) (by omega) ?_
        refine h_iald hx hb hK hW.a10 ((10 * t + 0 : Nat)) (by omega) (by omega) (by decide) dX2_cancel_45 ?_
        have b7 : N 10 ((10 * t + 0 : Nat)) ≤ 1439 := hN 10 ((10 * t + 0 : Nat))
        refine lv_aload_n hx hb dX2_cancel_46 rfl (lv_at hl 0 rfl) ?_
        refine m_get hx hb hts hown hK hW 1 (by decide) q975 rfl (v := .int (iI (F 1))) rfl dX2_cancel_47 ?_
        have b8 : F 1 ≤ 1439 := hF 1
        refine ri_icmp_gt (tgt := 55) hx hb (by unfold inR; omega) (by unfold inR; omega) dX2_cancel_50 (by decide) (fun h9 => ?_) (fun h9 => ?_)
        · skip
          refine lv_aload_n hx hb dX2_cancel_55 rfl (lv_at hl 0 rfl) ?_
          refine m_get hx hb hts hown hK hW 13 (by decide) q987 rfl (v := .ref (ad 13)) rfl dX2_cancel_56 ?_
          refine lv_iload_n hx hb dX2_cancel_59 rfl (lv_at hl 1 rfl) ?_
          refine lv_iconst (v := iI (1)) hx hb dX2_cancel_60 rfl ?_
          refine m_stZ hx hb hK hW hS 13 (by unfold isA; omega) (by omega) rfl (by omega) (t) (by omega) (by show _ < 16; omega) (1) (by omega) dX2_cancel_61 (fun H locs hW hS => ?_)
          have hN : NB (up2 (N) 13 (t) (1)) := hN.up (by show 1 ≤ 1; omega)
          refine lv_iconst (v := iI (0)) hx hb dX2_cancel_62 rfl ?_
          refine lv_istore_n (lv' := [(2, .int (iI (0))), (0, .ref o), (1, .int (iI (t)))]) hx hb dX2_cancel_63 rfl hl (by decide) rfl (fun ls hl => ?_)
          refine lv_iconst (v := iI (0)) hx hb dX2_cancel_64 rfl ?_
          refine lv_istore_n (lv' := [(3, .int (iI (0))), (2, .int (iI (0))), (0, .ref o), (1, .int (iI (t)))]) hx hb dX2_cancel_65 rfl hl (by decide) rfl (fun ls hl => ?_)
          have lp66 : ∀ (fuel : Nat) (bv cn : Nat) (Nc Xc : Nat → Nat → Nat) (Zc : Nat → Int) (gc : Nat → Nat) (hb4 : bv ≤ F 4) (hcn : cn ≤ bv) (hN : NB Nc) (hX : XB Xc) (hZ : ZB (K + 3 * bv) Zc) (h37 : Xc 37 = gc) (hP : c1It t (up2 N 13 t 1) Z (X 37) bv = (Nc, Zc, gc, cn)), F 4 - bv < fuel → ∀ (H : Heap) (locs : List Loc) (ls : Array Slot), MW D cA A o ad (va_up (F) 0 (0)) G Nc Xc Zc H → va_S A s.heap H locs → lv_has ls 8 [(3, .int (iI (bv))), (2, .int (iI (cn))), (0, .ref o), (1, .int (iI (t)))] → W p l e (headSpec (ws_ yX2_cancel cX2_cancel 8 (some .int)) ({ frames := 8, cells := 0, slots := 0, locals := 209 })).room s m ([.ref o, .int (iI (t))] : List Value).toArray below meth c H locs 0 0 (MQ below (Qi (fun z H' => ((N 13 t = 0 ∧ N 8 t ≠ 0 ∧ F 1 < N 10 (10 * t + 0)) → ∃ G' X', GB G' ∧ XB X' ∧ z = (c1It t (up2 N 13 t 1) Z (X 37) (F 4)).2.2.2 ∧ NB (c2It F (c1It t (up2 N 13 t 1) Z (X 37) (F 4)).2.2.1 (c1It t (up2 N 13 t 1) Z (X 37) (F 4)).1 (c1It t (up2 N 13 t 1) Z (X 37) (F 4)).2.1 (F 4)).1 ∧ ZB (K + 360) (c2It F (c1It t (up2 N 13 t 1) Z (X 37) (F 4)).2.2.1 (c1It t (up2 N 13 t 1) Z (X 37) (F 4)).1 (c1It t (up2 N 13 t 1) Z (X 37) (F 4)).2.1 (F 4)).2 ∧ MW D cA A o ad (va_up F 0 0) G' (c2It F (c1It t (up2 N 13 t 1) Z (X 37) (F 4)).2.2.1 (c1It t (up2 N 13 t 1) Z (X 37) (F 4)).1 (c1It t (up2 N 13 t 1) Z (X 37) (F 4)).2.1 (F 4)).1 X' (c2It F (c1It t (up2 N 13 t 1) Z (X 37) (F 4)).2.2.1 (c1It t (up2 N 13 t 1) Z (X 37) (F 4)).1 (c1It t (up2 N 13 t 1) Z (X 37) (F 4)).2.1 (F 4)).2 H') ∧ (¬ (N 13 t = 0 ∧ N 8 t ≠ 0 ∧ F 1 < N 10 (10 * t + 0)) → z = -1 ∧ MW D cA A o ad (va_up F 0 0) G N X Z H')) A) ([.ref o, .int (iI (t))] : List Value).toArray s 0 0 (A)) (F0 m 66 ls []) := by
            intro fuel
            induction fuel with
            | zero => intro bv cn Nc Xc Zc gc hb4 hcn hN hX hZ h37 hP hm; exact absurd hm (Nat.not_lt_zero _)
            | succ fuel ih66 =>
              intro bv cn Nc Xc Zc gc hb4 hcn hN hX hZ h37 hP hm66 H locs ls hW hS hl
              refine lv_iload_n hx hb dX2_cancel_66 rfl (lv_at hl 0 rfl) ?_
              refine lv_aload_n hx hb dX2_cancel_67 rfl (lv_at hl 2 rfl) ?_
              refine m_get hx hb hts hown hK hW 4 (by decide) q978 rfl (v := .int (iI (F 4))) rfl dX2_cancel_68 ?_
              have b10 : F 4 ≤ 60 := hF 4
              refine ri_icmp_ge (tgt := 150) hx hb (by unfold inR; omega) (by unfold inR; omega) dX2_cancel_71 (by decide) (fun h11 => ?_) (fun h11 => ?_)
              · skip
                rw [show bv = F 4 by omega] at hP hcn
                have hZ := hZ.mono (show K + 3 * bv ≤ K + 180 by omega)
                generalize hNf : Nc = Nf at hW hN hP
                generalize hZf : Zc = Zf at hW hZ hP
                generalize hgf : gc = gf at h37 hP
                refine lv_iconst (v := iI (0)) hx hb dX2_cancel_150 rfl ?_
                refine lv_istore_n (lv' := [(3, .int (iI (0))), (2, .int (iI (cn))), (0, .ref o), (1, .int (iI (t)))]) hx hb dX2_cancel_151 rfl hl (by decide) rfl (fun ls hl => ?_)
                have lp152 : ∀ (fuel : Nat) (bv : Nat) (Gc : Nat → Nat) (Nc Xc : Nat → Nat → Nat) (Zc : Nat → Int) (hb4 : bv ≤ F 4) (hG : GB Gc) (hN : NB Nc) (hX : XB Xc) (hZ : ZB (K + 180 + 3 * bv) Zc) (h37 : Xc 37 = gf) (hP2 : c2It F gf Nf Zf bv = (Nc, Zc)), F 4 - bv < fuel → ∀ (H : Heap) (locs : List Loc) (ls : Array Slot), MW D cA A o ad (va_up (F) 0 (0)) Gc Nc Xc Zc H → va_S A s.heap H locs → lv_has ls 8 [(3, .int (iI (bv))), (2, .int (iI (cn))), (0, .ref o), (1, .int (iI (t)))] → W p l e (headSpec (ws_ yX2_cancel cX2_cancel 8 (some .int)) ({ frames := 8, cells := 0, slots := 0, locals := 209 })).room s m ([.ref o, .int (iI (t))] : List Value).toArray below meth c H locs 0 0 (MQ below (Qi (fun z H' => ((N 13 t = 0 ∧ N 8 t ≠ 0 ∧ F 1 < N 10 (10 * t + 0)) → ∃ G' X', GB G' ∧ XB X' ∧ z = (c1It t (up2 N 13 t 1) Z (X 37) (F 4)).2.2.2 ∧ NB (c2It F (c1It t (up2 N 13 t 1) Z (X 37) (F 4)).2.2.1 (c1It t (up2 N 13 t 1) Z (X 37) (F 4)).1 (c1It t (up2 N 13 t 1) Z (X 37) (F 4)).2.1 (F 4)).1 ∧ ZB (K + 360) (c2It F (c1It t (up2 N 13 t 1) Z (X 37) (F 4)).2.2.1 (c1It t (up2 N 13 t 1) Z (X 37) (F 4)).1 (c1It t (up2 N 13 t 1) Z (X 37) (F 4)).2.1 (F 4)).2 ∧ MW D cA A o ad (va_up F 0 0) G' (c2It F (c1It t (up2 N 13 t 1) Z (X 37) (F 4)).2.2.1 (c1It t (up2 N 13 t 1) Z (X 37) (F 4)).1 (c1It t (up2 N 13 t 1) Z (X 37) (F 4)).2.1 (F 4)).1 X' (c2It F (c1It t (up2 N 13 t 1) Z (X 37) (F 4)).2.2.1 (c1It t (up2 N 13 t 1) Z (X 37) (F 4)).1 (c1It t (up2 N 13 t 1) Z (X 37) (F 4)).2.1 (F 4)).2 H') ∧ (¬ (N 13 t = 0 ∧ N 8 t ≠ 0 ∧ F 1 < N 10 (10 * t + 0)) → z = -1 ∧ MW D cA A o ad (va_up F 0 0) G N X Z H')) A) ([.ref o, .int (iI (t))] : List Value).toArray s 0 0 (A)) (F0 m 152 ls []) := by
                  intro fuel
                  induction fuel with
                  | zero => intro bv Gc Nc Xc Zc hb4 hG hN hX hZ h37 hP2 hm; exact absurd hm (Nat.not_lt_zero _)
                  | succ fuel ih152 =>
                    intro bv Gc Nc Xc Zc hb4 hG hN hX hZ h37 hP2 hm152 H locs ls hW hS hl
                    refine lv_iload_n hx hb dX2_cancel_152 rfl (lv_at hl 0 rfl) ?_
                    refine lv_aload_n hx hb dX2_cancel_153 rfl (lv_at hl 2 rfl) ?_
                    refine m_get hx hb hts hown hK hW 4 (by decide) q978 rfl (v := .int (iI (F 4))) rfl dX2_cancel_154 ?_
                    refine ri_icmp_ge (tgt := 292) hx hb (by unfold inR; omega) (by unfold inR; omega) dX2_cancel_157 (by decide) (fun h12 => ?_) (fun h12 => ?_)
                    · skip
                      refine lv_iload_n hx hb dX2_cancel_292 rfl (lv_at hl 1 rfl) ?_
                      exact W.iret hx hb hr (fun t ht hWm => ⟨⟨_, rfl, by rw [ht]; exact ⟨fun _ => ⟨Gc, Xc, hG, hX, by rw [hP, show F 4 = bv by omega, hP2]; exact ⟨rfl, hN, hZ.mono (by omega), hW⟩⟩, fun q => absurd (by omega) q⟩⟩, hS.F ht⟩) hS.2.2 dX2_cancel_293
                    · skip
                      refine lv_aload_n hx hb dX2_cancel_160 rfl (lv_at hl 2 rfl) ?_
                      refine m_get hx hb hts hown hK hW 37 (by decide) q1011 rfl (v := .ref (ad 37)) rfl dX2_cancel_161 ?_
                      refine lv_iload_n hx hb dX2_cancel_164 rfl (lv_at hl 0 rfl) ?_
                      refine h_zald hx hb hK hW.a37 (bv) (by omega) (by omega) (by decide) dX2_cancel_165 ?_
                      refine ri_top (b := gf bv) (by rw [h37]) ?_
                      refine ri_if_ne (tgt := 172) hx hb (by have := hX 37 bv; rw [h37] at this; have : gf bv ≤ 1 := this; unfold inR; omega) dX2_cancel_166 (by decide) (fun h13 => ?_) (fun h13 => ?_)
                      · skip
                        refine lv_aload_n hx hb dX2_cancel_172 rfl (lv_at hl 2 rfl) ?_
                        refine lv_iload_n hx hb dX2_cancel_173 rfl (lv_at hl 0 rfl) ?_
                        refine rc_V (W.runV (As := [.int (iI (bv))]) (rest := []) ⟨hx, hb, hml, hown, hts⟩ (mm_wayOf l D cA A o ad (va_up (F) 0 (0)) Gc Nc Xc Zc _ (by omega) hF hG hN hX hZ bv (by omega)) (cwV 1 hts (lw_V q1125 q1127 qs18 q62 q1128) rfl rfl rfl (by decide +kernel) ⟨Nat.le_of_ble_eq_true rfl, Nat.le_of_ble_eq_true rfl⟩) (preV hK hW.1 rfl hW) rfl rfl hl.1 rfl (lv_room (Nat.le_of_ble_eq_true rfl)) dX2_cancel_174 ⟨Nat.le_of_ble_eq_true rfl, Nat.le_of_ble_eq_true rfl⟩) ?_
                        have b14 : wayN Nc bv < 120 := wayN_lt hN (by omega)
                        refine lv_istore (lv' := [(4, .int (iI (wayN Nc bv))), (3, .int (iI (bv))), (2, .int (iI (cn))), (0, .ref o), (1, .int (iI (t)))]) hx hb dX2_cancel_177 hl (by decide) rfl (fun ls hl => ?_)
                        refine lv_iload hx hb dX2_cancel_179 (lv_at hl 0 rfl) ?_
                        refine lv_aload_n hx hb dX2_cancel_181 rfl (lv_at hl 3 rfl) ?_
                        refine m_get hx hb hts hown hK hW 24 (by decide) q998 rfl (v := .ref (ad 24)) rfl dX2_cancel_182 ?_
                        refine lv_iload hx hb dX2_cancel_185 (lv_at hl 0 rfl) ?_
                        refine h_iald hx hb hK hW.a24 (wayN Nc bv) (by omega) (by omega) (by decide) dX2_cancel_187 ?_
                        have b15 : Nc 24 (wayN Nc bv) ≤ 3 := hN 24 (wayN Nc bv)
                        refine lv_iconst (v := iI (1)) hx hb dX2_cancel_188 rfl ?_
                        refine ri_isub hx hb dX2_cancel_189 ?_
                        refine rc_V (W.runS (As := [.int (iI (wayN Nc bv)), .int (iI (Nc 24 (wayN Nc bv) - 1))]) (rest := []) ⟨hx, hb, hml, hown, hts⟩ (mm_legAt l D cA (wayN Nc bv) (Nc 24 (wayN Nc bv) - 1) ) (va_cwS 2 hts (lw_S q1163 q1164 q62 q1165) rfl rfl rfl (by decide +kernel) ⟨Nat.le_of_ble_eq_true rfl, Nat.le_of_ble_eq_true rfl⟩) (preS hK (B := fun _ => True) trivial) rfl rfl hl.1 rfl (lv_room (Nat.le_of_ble_eq_true rfl)) dX2_cancel_190 ⟨Nat.le_of_ble_eq_true rfl, Nat.le_of_ble_eq_true rfl⟩) ?_
                        refine lv_istore (lv' := [(5, .int (iI (3 * (wayN Nc bv) + (Nc 24 (wayN Nc bv) - 1)))), (4, .int (iI (wayN Nc bv))), (3, .int (iI (bv))), (2, .int (iI (cn))), (0, .ref o), (1, .int (iI (t)))]) hx hb dX2_cancel_193 hl (by decide) rfl (fun ls hl => ?_)
                        refine lv_aload_n hx hb dX2_cancel_195 rfl (lv_at hl 4 rfl) ?_
                        refine m_get hx hb hts hown hK hW 24 (by decide) q998 rfl (v := .ref (ad 24)) rfl dX2_cancel_196 ?_
                        refine lv_iload hx hb dX2_cancel_199 (lv_at hl 1 rfl) ?_
                        refine h_iald hx hb hK hW.a24 (wayN Nc bv) (by omega) (by omega) (by decide) dX2_cancel_201 ?_
                        have jn235 : ∀ (H : Heap) (locs : List Loc) (ls : Array Slot), MW D cA A o ad (va_up (F) 0 (0)) Gc Nc Xc Zc H → va_S A s.heap H locs → lv_has ls 8 [(5, .int (iI (3 * (wayN Nc bv) + (Nc 24 (wayN Nc bv) - 1)))), (4, .int (iI (wayN Nc bv))), (3, .int (iI (bv))), (2, .int (iI (cn))), (0, .ref o), (1, .int (iI (t)))] → W p l e (headSpec (ws_ yX2_cancel cX2_cancel 8 (some .int)) ({ frames := 8, cells := 0, slots := 0, locals := 209 })).room s m ([.ref o, .int (iI (t))] : List Value).toArray below meth c H locs 0 0 (MQ below (Qi (fun z H' => ((N 13 t = 0 ∧ N 8 t ≠ 0 ∧ F 1 < N 10 (10 * t + 0)) → ∃ G' X', GB G' ∧ XB X' ∧ z = (c1It t (up2 N 13 t 1) Z (X 37) (F 4)).2.2.2 ∧ NB (c2It F (c1It t (up2 N 13 t 1) Z (X 37) (F 4)).2.2.1 (c1It t (up2 N 13 t 1) Z (X 37) (F 4)).1 (c1It t (up2 N 13 t 1) Z (X 37) (F 4)).2.1 (F 4)).1 ∧ ZB (K + 360) (c2It F (c1It t (up2 N 13 t 1) Z (X 37) (F 4)).2.2.1 (c1It t (up2 N 13 t 1) Z (X 37) (F 4)).1 (c1It t (up2 N 13 t 1) Z (X 37) (F 4)).2.1 (F 4)).2 ∧ MW D cA A o ad (va_up F 0 0) G' (c2It F (c1It t (up2 N 13 t 1) Z (X 37) (F 4)).2.2.1 (c1It t (up2 N 13 t 1) Z (X 37) (F 4)).1 (c1It t (up2 N 13 t 1) Z (X 37) (F 4)).2.1 (F 4)).1 X' (c2It F (c1It t (up2 N 13 t 1) Z (X 37) (F 4)).2.2.1 (c1It t (up2 N 13 t 1) Z (X 37) (F 4)).1 (c1It t (up2 N 13 t 1) Z (X 37) (F 4)).2.1 (F 4)).2 H') ∧ (¬ (N 13 t = 0 ∧ N 8 t ≠ 0 ∧ F 1 < N 10 (10 * t + 0)) → z = -1 ∧ MW D cA A o ad (va_up F 0 0) G N X Z H')) A) ([.ref o, .int (iI (t))] : List Value).toArray s 0 0 (A)) (F0 m 235 ls [.int (iI (endN Nc bv))]) := by
                          intro   H locs ls hW hS hl
                          have hen := endN_le hN bv
                          refine lv_istore (lv' := [(6, .int (iI (endN Nc bv))), (5, .int (iI (3 * (wayN Nc bv) + (Nc 24 (wayN Nc bv) - 1)))), (4, .int (iI (wayN Nc bv))), (3, .int (iI (bv))), (2, .int (iI (cn))), (0, .ref o), (1, .int (iI (t)))]) hx hb dX2_cancel_235 hl (by decide) rfl (fun ls hl => ?_)
                          refine lv_aload_n hx hb dX2_cancel_237 rfl (lv_at hl 5 rfl) ?_
                          refine m_get hx hb hts hown hK hW 1 (by decide) q975 rfl (v := .int (iI (F 1))) rfl dX2_cancel_238 ?_
                          refine lv_aload_n hx hb dX2_cancel_241 rfl (lv_at hl 5 rfl) ?_
                          refine lv_iload hx hb dX2_cancel_242 (lv_at hl 2 rfl) ?_
                          refine lv_iload_n hx hb dX2_cancel_244 rfl (lv_at hl 3 rfl) ?_
                          refine rc_V (W.runV (As := [.int (iI ((wayN Nc bv : Nat))), .int (iI (bv))]) (rest := [.int (iI (F 1))]) ⟨hx, hb, hml, hown, hts⟩ (mm_there l D cA A o ad (va_up (F) 0 (0)) Gc Nc Xc Zc _ (by omega) hF hG hN hX hZ (wayN Nc bv) bv (by omega) (by omega)) (cwV 2 hts (lw_V q1194 q1196 qs32 q62 q1197) rfl rfl rfl (by decide +kernel) ⟨Nat.le_of_ble_eq_true rfl, Nat.le_of_ble_eq_true rfl⟩) (preV hK hW.1 rfl hW) rfl rfl hl.1 rfl (lv_room (Nat.le_of_ble_eq_true rfl)) dX2_cancel_245 ⟨Nat.le_of_ble_eq_true rfl, Nat.le_of_ble_eq_true rfl⟩) ?_
                          have b16 : thrN Nc (wayN Nc bv) bv ≤ 1619 := thrN_le hN _ _
                          refine ri_mmax hx hb hml hl.1 hown (hts _ q1129) (hts _ q194) (hts _ q55) (hts _ q195) (by unfold inR; omega) (by unfold inR; omega) (Nat.le_of_ble_eq_true rfl) (Nat.le_of_ble_eq_true rfl) (Nat.le_of_ble_eq_true rfl) (Nat.le_of_ble_eq_true rfl) dX2_cancel_248 ?_
                          refine ri_top (b := (((max (F 1) (thrN Nc (wayN Nc bv) bv)) : Nat) : Int)) (max_eq _ _) ?_
                          refine lv_istore (lv' := [(7, .int (iI ((((max (F 1) (thrN Nc (wayN Nc bv) bv)) : Nat) : Int)))), (6, .int (iI (endN Nc bv))), (5, .int (iI (3 * (wayN Nc bv) + (Nc 24 (wayN Nc bv) - 1)))), (4, .int (iI (wayN Nc bv))), (3, .int (iI (bv))), (2, .int (iI (cn))), (0, .ref o), (1, .int (iI (t)))]) hx hb dX2_cancel_251 hl (by decide) rfl (fun ls hl => ?_)
                          refine lv_aload_n hx hb dX2_cancel_253 rfl (lv_at hl 6 rfl) ?_
                          refine lv_iload_n hx hb dX2_cancel_254 rfl (lv_at hl 4 rfl) ?_
                          refine lv_iload hx hb dX2_cancel_255 (lv_at hl 1 rfl) ?_
                          refine lv_iload hx hb dX2_cancel_257 (lv_at hl 0 rfl) ?_
                          refine rc_I (W.runV (As := [.int (iI (bv)), .int (iI ((endN Nc bv : Nat))), .int (iI (((max (F 1) (thrN Nc (wayN Nc bv) bv)) : Nat)))]) (rest := []) ⟨hx, hb, hml, hown, hts⟩ (mm_leadOn l D cA A o ad (va_up (F) 0 (0)) Gc Nc Xc Zc _ (by omega) hF hG hN hX hZ bv (endN Nc bv) ((max (F 1) (thrN Nc (wayN Nc bv) bv))) (by omega) (by omega) (by omega) (by omega)) (cwV 3 hts (lw_V q1130 q1132 qs19 q62 q1133) rfl rfl rfl (by decide +kernel) ⟨Nat.le_of_ble_eq_true rfl, Nat.le_of_ble_eq_true rfl⟩) (preV hK hW.1 rfl hW) rfl rfl hl.1 rfl (lv_room (Nat.le_of_ble_eq_true rfl)) dX2_cancel_259 ⟨Nat.le_of_ble_eq_true rfl, Nat.le_of_ble_eq_true rfl⟩) hS (fun _ _ h => h) (fun _ h => h) (fun z H locs hq hS hz hk => ?_)
                          obtain ⟨Gr, Xr, hG, hX, h37r, hzr, hN, hZ, hW⟩ := hq
                          have hle := ldOn_le (T := F 3) (N := Nc) (Z := Zc) (b := bv) (s := (endN Nc bv)) (m := (max (F 1) (thrN Nc (wayN Nc bv) bv)))
                          have hl0 := ldOn_0 (T := F 3) (N := Nc) (Z := Zc) (b := bv) (s := (endN Nc bv)) (m := (max (F 1) (thrN Nc (wayN Nc bv) bv)))
                          have hzr : z = ((ldOn (F 3) Nc Zc bv (endN Nc bv) (max (F 1) (thrN Nc (wayN Nc bv) bv))).2.2 : Int) := hzr
                          have hN : NB (ldOn (F 3) Nc Zc bv (endN Nc bv) (max (F 1) (thrN Nc (wayN Nc bv) bv))).1 := hN
                          have hW : MW D cA A o ad (va_up F 0 0) Gr (ldOn (F 3) Nc Zc bv (endN Nc bv) (max (F 1) (thrN Nc (wayN Nc bv) bv))).1 Xr (ldOn (F 3) Nc Zc bv (endN Nc bv) (max (F 1) (thrN Nc (wayN Nc bv) bv))).2.1 H := hW
                          have hZ : ZB _ (ldOn (F 3) Nc Zc bv (endN Nc bv) (max (F 1) (thrN Nc (wayN Nc bv) bv))).2.1 := hZ
                          generalize hrr : ldOn (F 3) Nc Zc bv (endN Nc bv) (max (F 1) (thrN Nc (wayN Nc bv) bv)) = r at hzr hle hl0 hN hZ hW
                          subst hzr
                          refine ri_if_eq (tgt := 268) hx hb (by unfold inR; omega) dX2_cancel_262 (by decide) (fun h17 => ?_) (fun h17 => ?_)
                          · skip
                            rw [(hl0 (by omega)).1, (hl0 (by omega)).2] at hW
                            rw [(hl0 (by omega)).1] at hN
                            rw [(hl0 (by omega)).2] at hZ
                            refine lv_aload_n hx hb dX2_cancel_268 rfl (lv_at hl 6 rfl) ?_
                            refine m_get hx hb hts hown hK hW 25 (by decide) q999 rfl (v := .ref (ad 25)) rfl dX2_cancel_269 ?_
                            refine lv_iload hx hb dX2_cancel_272 (lv_at hl 3 rfl) ?_
                            refine lv_iload hx hb dX2_cancel_274 (lv_at hl 1 rfl) ?_
                            refine m_st25 hx hb hK hW hS (wayN Nc bv) (by omega) (by omega) (endN Nc bv + 1) (by omega) dX2_cancel_276 (fun H locs hW hS => ?_)
                            have hN : NB (up2 (Nc) 25 (wayN Nc bv) (endN Nc bv + 1)) := hN.up (by show (endN Nc bv + 1) ≤ 10; omega)
                            refine lv_aload_n hx hb dX2_cancel_277 rfl (lv_at hl 6 rfl) ?_
                            refine m_get hx hb hts hown hK hW 26 (by decide) q1000 rfl (v := .ref (ad 26)) rfl dX2_cancel_278 ?_
                            refine lv_iload hx hb dX2_cancel_281 (lv_at hl 3 rfl) ?_
                            refine lv_iload hx hb dX2_cancel_283 (lv_at hl 0 rfl) ?_
                            refine m_st hx hb hK hW hS 26 (by unfold isA; omega) (by omega) rfl (wayN Nc bv) (by omega) (by show _ < 120; omega) ((max (F 1) (thrN Nc (wayN Nc bv) bv))) (by omega) dX2_cancel_285 (fun H locs hW hS => ?_)
                            have hN : NB (up2 (up2 (Nc) 25 (wayN Nc bv) (endN Nc bv + 1)) 26 (wayN Nc bv) ((max (F 1) (thrN Nc (wayN Nc bv) bv)))) := hN.up (by show ((max (F 1) (thrN Nc (wayN Nc bv) bv))) ≤ 2000; omega)
                            refine lv_iinc (v := iI ((bv + 1 : Nat))) (lv' := [(3, .int (iI ((bv + 1 : Nat)))), (7, .int (iI ((((max (F 1) (thrN Nc (wayN Nc bv) bv)) : Nat) : Int)))), (6, .int (iI (endN Nc bv))), (5, .int (iI (3 * (wayN Nc bv) + (Nc 24 (wayN Nc bv) - 1)))), (4, .int (iI (wayN Nc bv))), (2, .int (iI (cn))), (0, .ref o), (1, .int (iI (t)))]) hx hb dX2_cancel_286 hl (k := 4) rfl (iI_succ _) (by decide) rfl (fun ls hl => ?_)
                            refine lv_goto (tgt := 152) hx hb dX2_cancel_289 (by decide) ?_
                            have hP3 : c2It F gf Nf Zf (bv + 1) = (up2 (up2 (Nc) 25 (wayN Nc bv) (endN Nc bv + 1)) 26 (wayN Nc bv) ((max (F 1) (thrN Nc (wayN Nc bv) bv))), Zc) := by
                              show (if gf bv = 0 then _ else _) = _
                              rw [if_neg (by omega), hP2]; unfold c2Step; dsimp only; rw [hrr, if_pos (by omega)]
                            have hZ := hZ.mono (show K + 180 + 3 * bv + 3 ≤ K + 180 + 3 * (bv + 1) by omega)
                            have h37 : Xr 37 = gf := h37r.trans h37
                            exact ih152 (bv + 1) (Gr) (up2 (up2 (Nc) 25 (wayN Nc bv) (endN Nc bv + 1)) 26 (wayN Nc bv) ((max (F 1) (thrN Nc (wayN Nc bv) bv)))) (Xr) (Zc) (by omega) hG hN hX hZ h37 hP3 (by omega) _ _ _ hW hS (lv_sub hl [0, 5, 6, 7] rfl)
                          · skip
                            refine lv_goto (tgt := 286) hx hb dX2_cancel_265 (by decide) ?_
                            refine lv_iinc (v := iI ((bv + 1 : Nat))) (lv' := [(3, .int (iI ((bv + 1 : Nat)))), (7, .int (iI ((((max (F 1) (thrN Nc (wayN Nc bv) bv)) : Nat) : Int)))), (6, .int (iI (endN Nc bv))), (5, .int (iI (3 * (wayN Nc bv) + (Nc 24 (wayN Nc bv) - 1)))), (4, .int (iI (wayN Nc bv))), (2, .int (iI (cn))), (0, .ref o), (1, .int (iI (t)))]) hx hb dX2_cancel_286 hl (k := 4) rfl (iI_succ _) (by decide) rfl (fun ls hl => ?_)
                            refine lv_goto (tgt := 152) hx hb dX2_cancel_289 (by decide) ?_
                            have hP3 : c2It F gf Nf Zf (bv + 1) = (r.1, r.2.1) := by
                              show (if gf bv = 0 then _ else _) = _
                              rw [if_neg (by omega), hP2]; unfold c2Step; dsimp only; rw [hrr, if_neg (by omega)]
                            have hZ := hZ.mono (show K + 180 + 3 * bv + 3 ≤ K + 180 + 3 * (bv + 1) by omega)
                            have h37 : Xr 37 = gf := h37r.trans h37
                            exact ih152 (bv + 1) (Gr) (r.1) (Xr) (r.2.1) (by omega) hG hN hX hZ h37 hP3 (by omega) _ _ _ hW hS (lv_sub hl [0, 5, 6, 7] rfl)
                        refine ri_if_ne (tgt := 213) hx hb (by unfold inR; omega) dX2_cancel_202 (by decide) (fun h18 => ?_) (fun h18 => ?_)
                        · skip
                          refine lv_aload_n hx hb dX2_cancel_213 rfl (lv_at hl 4 rfl) ?_
                          refine m_get hx hb hts hown hK hW 9 (by decide) q983 rfl (v := .ref (ad 9)) rfl dX2_cancel_214 ?_
                          refine lv_aload_n hx hb dX2_cancel_217 rfl (lv_at hl 4 rfl) ?_
                          refine m_get hx hb hts hown hK hW 27 (by decide) q1001 rfl (v := .ref (ad 27)) rfl dX2_cancel_218 ?_
                          refine lv_iload hx hb dX2_cancel_221 (lv_at hl 0 rfl) ?_
                          refine h_iald hx hb hK hW.a27 (3 * wayN Nc bv + (Nc 24 (wayN Nc bv) - 1)) (by omega) (by omega) (by decide) dX2_cancel_223 ?_
                          have b19 : Nc 27 (3 * wayN Nc bv + (Nc 24 (wayN Nc bv) - 1)) ≤ 15 := hN 27 (3 * wayN Nc bv + (Nc 24 (wayN Nc bv) - 1))
                          refine lv_aload_n hx hb dX2_cancel_224 rfl (lv_at hl 4 rfl) ?_
                          refine m_get hx hb hts hown hK hW 29 (by decide) q1003 rfl (v := .ref (ad 29)) rfl dX2_cancel_225 ?_
                          refine lv_iload hx hb dX2_cancel_228 (lv_at hl 0 rfl) ?_
                          refine h_iald hx hb hK hW.a29 (3 * wayN Nc bv + (Nc 24 (wayN Nc bv) - 1)) (by omega) (by omega) (by decide) dX2_cancel_230 ?_
                          have b20 : Nc 29 (3 * wayN Nc bv + (Nc 24 (wayN Nc bv) - 1)) ≤ 9 := hN 29 (3 * wayN Nc bv + (Nc 24 (wayN Nc bv) - 1))
                          refine rc_V (W.runS (As := [.int (iI (Nc 27 (3 * wayN Nc bv + (Nc 24 (wayN Nc bv) - 1)))), .int (iI (Nc 29 (3 * wayN Nc bv + (Nc 24 (wayN Nc bv) - 1))))]) (rest := [.ref (ad 9)]) ⟨hx, hb, hml, hown, hts⟩ (mm_node l D cA (Nc 27 (3 * wayN Nc bv + (Nc 24 (wayN Nc bv) - 1))) (Nc 29 (3 * wayN Nc bv + (Nc 24 (wayN Nc bv) - 1))) ) (va_cwS 2 hts (lw_S q1114 q1115 q62 q1116) rfl rfl rfl (by decide +kernel) ⟨Nat.le_of_ble_eq_true rfl, Nat.le_of_ble_eq_true rfl⟩) (preS hK (B := fun _ => True) trivial) rfl rfl hl.1 rfl (lv_room (Nat.le_of_ble_eq_true rfl)) dX2_cancel_231 ⟨Nat.le_of_ble_eq_true rfl, Nat.le_of_ble_eq_true rfl⟩) ?_
                          refine ri_top (b := (10 * Nc 27 (3 * wayN Nc bv + (Nc 24 (wayN Nc bv) - 1)) + Nc 29 (3 * wayN Nc bv + (Nc 24 (wayN Nc bv) - 1)) : Nat)) (by omega) ?_
                          refine h_iald hx hb hK hW.a9 ((10 * Nc 27 (3 * wayN Nc bv + (Nc 24 (wayN Nc bv) - 1)) + Nc 29 (3 * wayN Nc bv + (Nc 24 (wayN Nc bv) - 1)) : Nat)) (by omega) (by omega) (by decide) dX2_cancel_234 ?_
                          have b21 : Nc 9 ((10 * Nc 27 (3 * wayN Nc bv + (Nc 24 (wayN Nc bv) - 1)) + Nc 29 (3 * wayN Nc bv + (Nc 24 (wayN Nc bv) - 1)) : Nat)) ≤ 9 := hN 9 ((10 * Nc 27 (3 * wayN Nc bv + (Nc 24 (wayN Nc bv) - 1)) + Nc 29 (3 * wayN Nc bv + (Nc 24 (wayN Nc bv) - 1)) : Nat))
                          refine ri_top (b := (endN Nc bv : Int)) (by unfold endN; first | rw [if_pos (by omega)] | rw [if_neg (by omega)]) ?_
                          exact jn235   _ _ _ hW hS (lv_sub hl [0, 1, 2, 3, 4, 5] rfl)
                        · skip
                          refine lv_aload_n hx hb dX2_cancel_205 rfl (lv_at hl 4 rfl) ?_
                          refine lv_iload_n hx hb dX2_cancel_206 rfl (lv_at hl 2 rfl) ?_
                          refine rc_V (W.runV (As := [.int (iI (bv))]) (rest := []) ⟨hx, hb, hml, hown, hts⟩ (mm_fromOf l D cA A o ad (va_up (F) 0 (0)) Gc Nc Xc Zc _ (by omega) hF hG hN hX hZ bv (by omega)) (cwV 1 hts (lw_V q1174 q1176 qs29 q62 q1177) rfl rfl rfl (by decide +kernel) ⟨Nat.le_of_ble_eq_true rfl, Nat.le_of_ble_eq_true rfl⟩) (preV hK hW.1 rfl hW) rfl rfl hl.1 rfl (lv_room (Nat.le_of_ble_eq_true rfl)) dX2_cancel_207 ⟨Nat.le_of_ble_eq_true rfl, Nat.le_of_ble_eq_true rfl⟩) ?_
                          have b22 : frN Nc bv ≤ 9 := frN_lt hN _
                          refine lv_goto (tgt := 235) hx hb dX2_cancel_210 (by decide) ?_
                          refine ri_top (b := (endN Nc bv : Int)) (by unfold endN; first | rw [if_pos (by omega)] | rw [if_neg (by omega)]) ?_
                          exact jn235   _ _ _ hW hS (lv_sub hl [0, 1, 2, 3, 4, 5] rfl)
                      · skip
                        refine lv_goto (tgt := 286) hx hb dX2_cancel_169 (by decide) ?_
                        refine lv_iinc (v := iI ((bv + 1 : Nat))) (lv' := [(3, .int (iI ((bv + 1 : Nat)))), (2, .int (iI (cn))), (0, .ref o), (1, .int (iI (t)))]) hx hb dX2_cancel_286 hl (k := 0) rfl (iI_succ _) (by decide) rfl (fun ls hl => ?_)
                        refine lv_goto (tgt := 152) hx hb dX2_cancel_289 (by decide) ?_
                        have hP3 : c2It F gf Nf Zf (bv + 1) = (Nc, Zc) := by
                          show (if gf bv = 0 then _ else _) = _
                          rw [if_pos (by omega)]; exact hP2
                        have hZ := hZ.mono (show K + 180 + 3 * bv ≤ K + 180 + 3 * (bv + 1) by omega)
                        exact ih152 (bv + 1) (Gc) (Nc) (Xc) (Zc) (by omega) hG hN hX hZ h37 hP3 (by omega) _ _ _ hW hS (lv_sub hl [0, 1, 2, 3] rfl)
                exact lp152 _ (0) (G) (Nf) (Xc) (Zf) (by omega) hG hN hX hZ h37 rfl (Nat.lt_succ_self _) _ _ _ hW hS (lv_sub hl [0, 1, 2, 3] rfl)
              · skip
                refine lv_aload_n hx hb dX2_cancel_74 rfl (lv_at hl 2 rfl) ?_
                refine lv_iload_n hx hb dX2_cancel_75 rfl (lv_at hl 0 rfl) ?_
                refine lv_iload_n hx hb dX2_cancel_76 rfl (lv_at hl 3 rfl) ?_
                refine rc_V (W.runV (As := [.int (iI (bv)), .int (iI (t))]) (rest := []) ⟨hx, hb, hml, hown, hts⟩ (mm_firstOn l D cA A o ad (va_up (F) 0 (0)) G Nc Xc Zc _ (by omega) hF hG hN hX hZ bv t (by omega) (by omega)) (cwV 2 hts (lw_V q1190 q1192 qs31 q62 q1193) rfl rfl rfl (by decide +kernel) ⟨Nat.le_of_ble_eq_true rfl, Nat.le_of_ble_eq_true rfl⟩) (preV hK hW.1 rfl hW) rfl rfl hl.1 rfl (lv_room (Nat.le_of_ble_eq_true rfl)) dX2_cancel_77 ⟨Nat.le_of_ble_eq_true rfl, Nat.le_of_ble_eq_true rfl⟩) ?_
                have hfo := fOn_ge Nc (wayN Nc bv) t
                have hm3 : Nc 24 (wayN Nc bv) ≤ 3 := hN 24 _
                refine lv_istore (lv' := [(4, .int (iI (fOn Nc (wayN Nc bv) t))), (3, .int (iI (bv))), (2, .int (iI (cn))), (0, .ref o), (1, .int (iI (t)))]) hx hb dX2_cancel_80 hl (by decide) rfl (fun ls hl => ?_)
                refine lv_aload_n hx hb dX2_cancel_82 rfl (lv_at hl 3 rfl) ?_
                refine m_get hx hb hts hown hK hW 37 (by decide) q1011 rfl (v := .ref (ad 37)) rfl dX2_cancel_83 ?_
                refine lv_iload_n hx hb dX2_cancel_86 rfl (lv_at hl 1 rfl) ?_
                refine lv_iload hx hb dX2_cancel_87 (lv_at hl 0 rfl) ?_
                refine lv_iconst (v := iI (-1)) hx hb dX2_cancel_89 rfl ?_
                refine ri_icmp_eq (tgt := 97) hx hb (by unfold inR; omega) (by unfold inR; omega) dX2_cancel_90 (by decide) (fun h23 => ?_) (fun h23 => ?_)
                · skip
                  refine lv_iconst (v := iI (0)) hx hb dX2_cancel_97 rfl ?_
                  refine m_stXZ hx hb hK hW hS 37 (by unfold isA; omega) (by omega) rfl (by omega) (bv) (by omega) (by show _ < 60; omega) (0) (by omega) dX2_cancel_98 (fun H locs hW hS => ?_)
                  have hX : XB (up2 (Xc) 37 (bv) (0)) := hX.up (by show 0 ≤ 1; omega)
                  refine lv_iload hx hb dX2_cancel_99 (lv_at hl 0 rfl) ?_
                  refine lv_iconst (v := iI (-1)) hx hb dX2_cancel_101 rfl ?_
                  refine ri_icmp_ne (tgt := 108) hx hb (by unfold inR; omega) (by unfold inR; omega) dX2_cancel_102 (by decide) (fun h24 => ?_) (fun h24 => ?_)
                  · skip
                    exfalso; omega
                  · skip
                    refine lv_goto (tgt := 144) hx hb dX2_cancel_105 (by decide) ?_
                    refine lv_iinc (v := iI ((bv + 1 : Nat))) (lv' := [(3, .int (iI ((bv + 1 : Nat)))), (4, .int (iI (fOn Nc (wayN Nc bv) t))), (2, .int (iI (cn))), (0, .ref o), (1, .int (iI (t)))]) hx hb dX2_cancel_144 hl (k := 1) rfl (iI_succ _) (by decide) rfl (fun ls hl => ?_)
                    refine lv_goto (tgt := 66) hx hb dX2_cancel_147 (by decide) ?_
                    have hP2 : c1It t (up2 N 13 t 1) Z (X 37) (bv + 1) = (Nc, Zc, va_up gc bv 0, cn) := by
                      show c1Step t (c1It t (up2 N 13 t 1) Z (X 37) bv) bv = _
                      rw [hP]; unfold c1Step; dsimp only; rw [if_pos (by omega)]
                    have hZ := hZ.mono (show K + 3 * bv ≤ K + 3 * (bv + 1) by omega)
                    have h37 : (up2 Xc 37 bv 0) 37 = va_up gc bv 0 := by rw [up2_37, h37]
                    exact ih66 (bv + 1) (cn) (Nc) (up2 (Xc) 37 (bv) (0)) (Zc) (va_up gc bv 0) (by omega) (by omega) hN hX hZ h37 hP2 (by omega) _ _ _ hW hS (lv_sub hl [0, 2, 3, 4] rfl)
                · skip
                  refine lv_iconst (v := iI (1)) hx hb dX2_cancel_93 rfl ?_
                  refine lv_goto (tgt := 98) hx hb dX2_cancel_94 (by decide) ?_
                  refine m_stXZ hx hb hK hW hS 37 (by unfold isA; omega) (by omega) rfl (by omega) (bv) (by omega) (by show _ < 60; omega) (1) (by omega) dX2_cancel_98 (fun H locs hW hS => ?_)
                  have hX : XB (up2 (Xc) 37 (bv) (1)) := hX.up (by show 1 ≤ 1; omega)
                  refine lv_iload hx hb dX2_cancel_99 (lv_at hl 0 rfl) ?_
                  refine lv_iconst (v := iI (-1)) hx hb dX2_cancel_101 rfl ?_
                  refine ri_icmp_ne (tgt := 108) hx hb (by unfold inR; omega) (by unfold inR; omega) dX2_cancel_102 (by decide) (fun h25 => ?_) (fun h25 => ?_)
                  · skip
                    refine lv_aload_n hx hb dX2_cancel_108 rfl (lv_at hl 3 rfl) ?_
                    refine lv_iload_n hx hb dX2_cancel_109 rfl (lv_at hl 1 rfl) ?_
                    refine rc_V (W.runV (As := [.int (iI (bv))]) (rest := []) ⟨hx, hb, hml, hown, hts⟩ (mm_wayOf l D cA A o ad (va_up (F) 0 (0)) G Nc (up2 (Xc) 37 (bv) (1)) Zc _ (by omega) hF hG hN hX hZ bv (by omega)) (cwV 1 hts (lw_V q1125 q1127 qs18 q62 q1128) rfl rfl rfl (by decide +kernel) ⟨Nat.le_of_ble_eq_true rfl, Nat.le_of_ble_eq_true rfl⟩) (preV hK hW.1 rfl hW) rfl rfl hl.1 rfl (lv_room (Nat.le_of_ble_eq_true rfl)) dX2_cancel_110 ⟨Nat.le_of_ble_eq_true rfl, Nat.le_of_ble_eq_true rfl⟩) ?_
                    have b26 : wayN Nc bv < 120 := wayN_lt hN (by omega)
                    refine lv_istore (lv' := [(5, .int (iI (wayN Nc bv))), (4, .int (iI (fOn Nc (wayN Nc bv) t))), (3, .int (iI (bv))), (2, .int (iI (cn))), (0, .ref o), (1, .int (iI (t)))]) hx hb dX2_cancel_113 hl (by decide) rfl (fun ls hl => ?_)
                    refine lv_aload_n hx hb dX2_cancel_115 rfl (lv_at hl 4 rfl) ?_
                    refine lv_iload hx hb dX2_cancel_116 (lv_at hl 0 rfl) ?_
                    refine lv_iload hx hb dX2_cancel_118 (lv_at hl 1 rfl) ?_
                    refine ri_top (b := ((fOn Nc (wayN Nc bv) t).toNat : Nat)) (by omega) ?_
                    refine lv_iconst (v := iI (-1)) hx hb dX2_cancel_120 rfl ?_
                    refine rc_N (W.runV (As := [.int (iI ((wayN Nc bv : Nat))), .int (iI (((fOn Nc (wayN Nc bv) t).toNat : Nat))), .int (iI (-1))]) (rest := []) ⟨hx, hb, hml, hown, hts⟩ (mm_load0 l D cA A o ad (va_up (F) 0 (0)) G Nc (up2 (Xc) 37 (bv) (1)) Zc _ (by omega) hF hG hN hX hZ (wayN Nc bv) ((fOn Nc (wayN Nc bv) t).toNat) (-1) (by omega) (by omega) (by decide) (by decide) (by omega)) (cwV 3 hts (lw_V q1166 q1168 qs27 q62 q1169) rfl rfl rfl (by decide +kernel) ⟨Nat.le_of_ble_eq_true rfl, Nat.le_of_ble_eq_true rfl⟩) (preV hK hW.1 rfl hW) rfl rfl hl.1 rfl (lv_room (Nat.le_of_ble_eq_true rfl)) dX2_cancel_121 ⟨Nat.le_of_ble_eq_true rfl, Nat.le_of_ble_eq_true rfl⟩) hS (fun _ _ h => h) (fun _ h => h) (fun H locs hq hS hz hk => ?_)
                    have hW := hq
                    have hZ := (ldZ_B (N := Nc) (w := (wayN Nc bv)) (v := -1) (by decide) (by decide) (a := (fOn Nc (wayN Nc bv) t).toNat) (Nc 24 (wayN Nc bv) - (fOn Nc (wayN Nc bv) t).toNat) Zc hZ).mono (show _ ≤ K + 3 * (bv + 1) by omega)
                    refine lv_aload_n hx hb dX2_cancel_124 rfl (lv_at hl 4 rfl) ?_
                    refine m_get hx hb hts hown hK hW 24 (by decide) q998 rfl (v := .ref (ad 24)) rfl dX2_cancel_125 ?_
                    refine lv_iload hx hb dX2_cancel_128 (lv_at hl 0 rfl) ?_
                    refine lv_iload hx hb dX2_cancel_130 (lv_at hl 1 rfl) ?_
                    refine ri_top (b := ((fOn Nc (wayN Nc bv) t).toNat : Nat)) (by omega) ?_
                    refine m_st hx hb hK hW hS 24 (by unfold isA; omega) (by omega) rfl (wayN Nc bv) (by omega) (by show _ < 120; omega) ((fOn Nc (wayN Nc bv) t).toNat) (by omega) dX2_cancel_132 (fun H locs hW hS => ?_)
                    have hN : NB (up2 (Nc) 24 (wayN Nc bv) ((fOn Nc (wayN Nc bv) t).toNat)) := hN.up (by show ((fOn Nc (wayN Nc bv) t).toNat) ≤ 3; omega)
                    refine lv_aload_n hx hb dX2_cancel_133 rfl (lv_at hl 4 rfl) ?_
                    refine m_get hx hb hts hown hK hW 23 (by decide) q997 rfl (v := .ref (ad 23)) rfl dX2_cancel_134 ?_
                    refine lv_iload hx hb dX2_cancel_137 (lv_at hl 0 rfl) ?_
                    refine lv_iconst (v := iI (0)) hx hb dX2_cancel_139 rfl ?_
                    refine m_stZ hx hb hK hW hS 23 (by unfold isA; omega) (by omega) rfl (by omega) (wayN Nc bv) (by omega) (by show _ < 120; omega) (0) (by omega) dX2_cancel_140 (fun H locs hW hS => ?_)
                    have hN : NB (up2 (up2 (Nc) 24 (wayN Nc bv) ((fOn Nc (wayN Nc bv) t).toNat)) 23 (wayN Nc bv) (0)) := hN.up (by show 0 ≤ 1; omega)
                    refine lv_iinc (v := iI ((cn + 1 : Nat))) (lv' := [(2, .int (iI ((cn + 1 : Nat)))), (5, .int (iI (wayN Nc bv))), (4, .int (iI (fOn Nc (wayN Nc bv) t))), (3, .int (iI (bv))), (0, .ref o), (1, .int (iI (t)))]) hx hb dX2_cancel_141 hl (k := 3) rfl (iI_succ _) (by decide) rfl (fun ls hl => ?_)
                    refine lv_iinc (v := iI ((bv + 1 : Nat))) (lv' := [(3, .int (iI ((bv + 1 : Nat)))), (2, .int (iI ((cn + 1 : Nat)))), (5, .int (iI (wayN Nc bv))), (4, .int (iI (fOn Nc (wayN Nc bv) t))), (0, .ref o), (1, .int (iI (t)))]) hx hb dX2_cancel_144 hl (k := 3) rfl (iI_succ _) (by decide) rfl (fun ls hl => ?_)
                    refine lv_goto (tgt := 66) hx hb dX2_cancel_147 (by decide) ?_
                    have hP2 : c1It t (up2 N 13 t 1) Z (X 37) (bv + 1) = (up2 (up2 (Nc) 24 (wayN Nc bv) ((fOn Nc (wayN Nc bv) t).toNat)) 23 (wayN Nc bv) (0), ldZ Nc (wayN Nc bv) (-1) (fOn Nc (wayN Nc bv) t).toNat (Nc 24 (wayN Nc bv) - (fOn Nc (wayN Nc bv) t).toNat) Zc, va_up gc bv 1, cn + 1) := by
                      show c1Step t (c1It t (up2 N 13 t 1) Z (X 37) bv) bv = _
                      rw [hP]; unfold c1Step; dsimp only; rw [if_neg (by omega)]
                    have h37 : (up2 Xc 37 bv 1) 37 = va_up gc bv 1 := by rw [up2_37, h37]
                    exact ih66 (bv + 1) (cn + 1) (up2 (up2 (Nc) 24 (wayN Nc bv) ((fOn Nc (wayN Nc bv) t).toNat)) 23 (wayN Nc bv) (0)) (up2 (Xc) 37 (bv) (1)) (ldZ Nc (wayN Nc bv) (-1) (fOn Nc (wayN Nc bv) t).toNat (Nc 24 (wayN Nc bv) - (fOn Nc (wayN Nc bv) t).toNat) Zc) (va_up gc bv 1) (by omega) (by omega) hN hX hZ h37 hP2 (by omega) _ _ _ hW hS (lv_sub hl [0, 1, 4, 5] rfl)
                  · skip
                    exfalso; omega
          exact lp66 _ (0) (0) ((up2 N 13 t 1)) (X) (Z) (X 37) (by omega) (by omega) hN hX hZ rfl rfl (Nat.lt_succ_self _) _ _ _ hW hS (lv_sub hl [0, 1, 2, 3] rfl)
        · skip
          refine lv_iconst (v := iI (-1)) hx hb dX2_cancel_53 rfl ?_
          exact W.iret hx hb hr (fun t ht hWm => ⟨⟨_, rfl, by rw [ht]; exact ⟨fun q => absurd q (by omega), fun _ => ⟨rfl, hW⟩⟩⟩, hS.F ht⟩) hS.2.2 dX2_cancel_54
  · skip
    exfalso; omega

set_option maxHeartbeats 4000000 in
set_option maxRecDepth 100000 in
theorem mm_cancel_x (l : Launch) (D : va_G) (cA : Nat → ClassId) (A : Nat → Prop) (o : Nat) (ad : Nat → Nat) (F G : Nat → Nat) (N X : Nat → Nat → Nat) (Z : Nat → Int) (K : Nat) (hKb : K ≤ 1000000) (hF : FB F) (hG : GB G) (hN : NB N) (hX : XB X) (hZ : ZB K Z) (t : Int) (q_t : inR t) (hbad : ¬ ∃ a : Nat, t = a ∧ a < F 3) : Met l yX2_cancel (ws_ yX2_cancel cX2_cancel 8 (some .int)) ({ frames := 2, cells := 0, slots := 0, locals := 51 }) (Pk D cA [.ref o, .int (iI (t))] (MW D cA A o ad F G N X Z)) (Qi (fun z H' => MW D cA A o ad (va_up (va_up F 0 0) 0 1) G N X Z H') A) 0 0 (A) := by
  refine Met.ofW (cc := cX2_cancel) (maxL := 8) (ret := (some .int)) (by decide) rfl ?_
  intro p e s m args below meth c s₁ B hml hv
  obtain ⟨rfl, hK, hW⟩ := hv
  have hx := B.exec
  have hb := B.bytes
  have hr := B.returns
  have hts := atoms_spec (ws := ws_ yX2_cancel cX2_cancel 8 (some .int)) B.pre
  have hts : ∀ w ∈ lw_all, w.before _ s = true := fun w h => hts w (List.mem_cons_of_mem _ h)
  have hown : s.vm.findClass RX2 = some m.cls := findClass_of_methodNamed B.named
  have hlocks := B.notSynchronized
  have hl := lv_entry ([.ref o, .int (iI (t))]) (n := 8) (Nat.le_of_ble_eq_true rfl)
  rw [lg_entry_eq]
  generalize (lg_sl ([.ref o, .int (iI (t))]) ++ List.replicate (8 - (lg_sl ([.ref o, .int (iI (t))])).length) Slot.unset).toArray = ls at hl ⊢
  have hl : lv_has ls 8 [(0, .ref o), (1, .int (iI (t)))] := hl
  have hS : va_S A s.heap s.heap [] := va_S.rf
  have q_t1 := q_t
  unfold inR at q_t1
  have hF3 : F 3 ≤ 16 := hF 3
  refine lv_aload_n hx hb dX2_cancel_0 rfl (lv_at hl 0 rfl) ?_
  refine lv_iconst (v := iI (0)) hx hb dX2_cancel_1 rfl ?_
  refine m_put hx hb hts hown hK hW hS 0 (by decide) q974 rfl rfl rfl (0) rfl dX2_cancel_2 (fun H locs hW hS => ?_)
  have hF : FB (va_up (F) 0 (0)) := hF.up (by show 0 ≤ 2; omega)
  have e1 : va_up F 0 0 1 = F 1 := rfl
  have e2 : va_up F 0 0 2 = F 2 := rfl
  have e3 : va_up F 0 0 3 = F 3 := rfl
  have e4 : va_up F 0 0 4 = F 4 := rfl
  have e5 : va_up F 0 0 5 = F 5 := rfl
  refine lv_aload_n hx hb dX2_cancel_5 rfl (lv_at hl 0 rfl) ?_
  refine lv_iload_n hx hb dX2_cancel_6 rfl (lv_at hl 1 rfl) ?_
  refine rc_V (W.runV (As := [.int (iI (t))]) (rest := []) ⟨hx, hb, hml, hown, hts⟩ (mm_isTrain l D cA A o ad (va_up (F) 0 (0)) G N X Z K hKb hF hG hN hX hZ t (by unfold inR; omega)) (cwV 1 hts (lw_V q1106 q1108 qs16 q62 q1109) rfl rfl rfl (by decide +kernel) ⟨Nat.le_of_ble_eq_true rfl, Nat.le_of_ble_eq_true rfl⟩) (preV hK hW.1 rfl hW) rfl rfl hl.1 rfl (lv_room (Nat.le_of_ble_eq_true rfl)) dX2_cancel_7 ⟨Nat.le_of_ble_eq_true rfl, Nat.le_of_ble_eq_true rfl⟩) ?_
  rw [if_neg (show ¬ (0 ≤ (t : Int) ∧ (t : Int) < ((va_up (F) 0 (0)) 3 : Nat)) from fun q => hbad ⟨t.toNat, by omega, by omega⟩)]
  refine ri_if_ne (tgt := 18) hx hb (by unfold inR; omega) dX2_cancel_10 (by decide) (fun h2 => ?_) (fun h2 => ?_)
  · skip
    exfalso; omega
  · skip
    refine lv_aload_n hx hb dX2_cancel_13 rfl (lv_at hl 0 rfl) ?_
    refine rc_I (W.runV (As := []) (rest := []) ⟨hx, hb, hml, hown, hts⟩ (mm_fail l D cA A o ad (va_up (F) 0 (0)) G N X Z K hKb hF hG hN hX hZ  ) (cwV 0 hts (lw_V q1110 q1112 qs17 q62 q1113) rfl rfl rfl (by decide +kernel) ⟨Nat.le_of_ble_eq_true rfl, Nat.le_of_ble_eq_true rfl⟩) (preV hK hW.1 rfl hW) rfl rfl hl.1 rfl (lv_room (Nat.le_of_ble_eq_true rfl)) dX2_cancel_14 ⟨Nat.le_of_ble_eq_true rfl, Nat.le_of_ble_eq_true rfl⟩) hS (fun _ _ h => h) (fun _ h => h) (fun z H locs hq hS hz hk => ?_)
    obtain ⟨rfl, hW⟩ := hq
    exact W.iret hx hb hr (fun t ht hWm => ⟨⟨_, rfl, by rw [ht]; exact hW⟩, hS.F ht⟩) hS.2.2 dX2_cancel_17
