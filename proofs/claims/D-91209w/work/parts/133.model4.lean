set_option maxRecDepth 100000
set_option maxHeartbeats 4000000 in
set_option maxRecDepth 100000 in
theorem mm_count (l : Launch) (D : va_G) (cA : Nat → ClassId) (A : Nat → Prop) (o : Nat) (ad : Nat → Nat) (F G : Nat → Nat) (N X : Nat → Nat → Nat) (Z : Nat → Int) (K : Nat) (hKb : K ≤ 1000000) (hF : FB F) (hG : GB G) (hN : NB N) (hX : XB X) (hZ : ZB K Z) (w : Nat) (hw7 : w ≤ 7) : Met l yX2_count (ws_ yX2_count cX2_count 5 (some .int)) ({ frames := 6, cells := 0, slots := 0, locals := 138 }) (Pk D cA [.ref o, .int (iI (w))] (MW D cA A o ad F G N X Z)) (Qi (fun z H' => z = cntV F N w ∧ MW D cA A o ad (va_up F 0 0) G N X Z H') A) 0 0 (A) := by
  refine Met.ofW (cc := cX2_count) (maxL := 5) (ret := (some .int)) (by decide) rfl ?_
  intro p e s m args below meth c s₁ B hml hv
  obtain ⟨rfl, hK, hW⟩ := hv
  have hx := B.exec
  have hb := B.bytes
  have hr := B.returns
  have hts := atoms_spec (ws := ws_ yX2_count cX2_count 5 (some .int)) B.pre
  have hts : ∀ w ∈ lw_all, w.before _ s = true := fun w h => hts w (List.mem_cons_of_mem _ h)
  have hown : s.vm.findClass RX2 = some m.cls := findClass_of_methodNamed B.named
  have hlocks := B.notSynchronized
  have hl := lv_entry ([.ref o, .int (iI (w))]) (n := 5) (Nat.le_of_ble_eq_true rfl)
  rw [lg_entry_eq]
  generalize (lg_sl ([.ref o, .int (iI (w))]) ++ List.replicate (5 - (lg_sl ([.ref o, .int (iI (w))])).length) Slot.unset).toArray = ls at hl ⊢
  have hl : lv_has ls 5 [(0, .ref o), (1, .int (iI (w)))] := hl
  have hS : va_S A s.heap s.heap [] := va_S.rf
  have hF4 : F 4 ≤ 60 := hF 4
  have hc3 := cntB_le (fun b => decide (N 23 (wayN N b) ≠ 0)) (F 4)
  have hc4 := cntB_le (ltB N) (F 4)
  refine lv_aload_n hx hb dX2_count_0 rfl (lv_at hl 0 rfl) ?_
  refine lv_iconst (v := iI (0)) hx hb dX2_count_1 rfl ?_
  refine m_put hx hb hts hown hK hW hS 0 (by decide) q974 rfl rfl rfl (0) rfl dX2_count_2 (fun H locs hW hS => ?_)
  have hF : FB (va_up (F) 0 (0)) := hF.up (by show 0 ≤ 2; omega)
  have e1 : va_up F 0 0 1 = F 1 := rfl
  have e2 : va_up F 0 0 2 = F 2 := rfl
  have e3 : va_up F 0 0 3 = F 3 := rfl
  have e4 : va_up F 0 0 4 = F 4 := rfl
  have e5 : va_up F 0 0 5 = F 5 := rfl
  refine lv_iconst (v := iI (0)) hx hb dX2_count_5 rfl ?_
  refine lv_istore_n (lv' := [(2, .int (iI (0))), (0, .ref o), (1, .int (iI (w)))]) hx hb dX2_count_6 rfl hl (by decide) rfl (fun ls hl => ?_)
  refine lv_iconst (v := iI (0)) hx hb dX2_count_7 rfl ?_
  refine lv_istore_n (lv' := [(3, .int (iI (0))), (2, .int (iI (0))), (0, .ref o), (1, .int (iI (w)))]) hx hb dX2_count_8 rfl hl (by decide) rfl (fun ls hl => ?_)
  refine lv_iconst (v := iI (0)) hx hb dX2_count_9 rfl ?_
  refine lv_istore (lv' := [(4, .int (iI (0))), (3, .int (iI (0))), (2, .int (iI (0))), (0, .ref o), (1, .int (iI (w)))]) hx hb dX2_count_10 hl (by decide) rfl (fun ls hl => ?_)
  have lp12 : ∀ (fuel : Nat) (a : Nat) (ha : a ≤ F 4), F 4 - a < fuel → ∀ (H : Heap) (locs : List Loc) (ls : Array Slot), MW D cA A o ad (va_up (F) 0 (0)) G N X Z H → va_S A s.heap H locs → lv_has ls 5 [(4, .int (iI (a))), (3, .int (iI (cntB (ltB N) a))), (2, .int (iI (cntB (fun b => decide (N 23 (wayN N b) ≠ 0)) a))), (0, .ref o), (1, .int (iI (w)))] → W p l e (headSpec (ws_ yX2_count cX2_count 5 (some .int)) ({ frames := 6, cells := 0, slots := 0, locals := 138 })).room s m ([.ref o, .int (iI (w))] : List Value).toArray below meth c H locs 0 0 (MQ below (Qi (fun z H' => z = cntV F N w ∧ MW D cA A o ad (va_up F 0 0) G N X Z H') A) ([.ref o, .int (iI (w))] : List Value).toArray s 0 0 (A)) (F0 m 12 ls []) := by
    intro fuel
    induction fuel with
    | zero => intro a ha hm; exact absurd hm (Nat.not_lt_zero _)
    | succ fuel ih12 =>
      intro a ha hm12 H locs ls hW hS hl
      have hc1 := cntB_le (fun b => decide (N 23 (wayN N b) ≠ 0)) a
      have hc2 := cntB_le (ltB N) a
      refine lv_iload hx hb dX2_count_12 (lv_at hl 0 rfl) ?_
      refine lv_aload_n hx hb dX2_count_14 rfl (lv_at hl 3 rfl) ?_
      refine m_get hx hb hts hown hK hW 4 (by decide) q978 rfl (v := .int (iI (F 4))) rfl dX2_count_15 ?_
      have b1 : F 4 ≤ 60 := hF 4
      refine ri_icmp_ge (tgt := 66) hx hb (by unfold inR; omega) (by unfold inR; omega) dX2_count_18 (by decide) (fun h2 => ?_) (fun h2 => ?_)
      · skip
        have ha4 : a = F 4 := by omega
        rw [ha4] at hl
        refine lv_iload_n hx hb dX2_count_66 rfl (lv_at hl 4 rfl) ?_
        rcases (by omega : w < 0 ∨ 7 < w ∨ w = 0 ∨ w = 1 ∨ w = 2 ∨ w = 3 ∨ w = 4 ∨ w = 5 ∨ w = 6 ∨ w = 7) with h3 | h3 | h3 | h3 | h3 | h3 | h3 | h3 | h3 | h3
        · skip
          exfalso; omega
        · skip
          exfalso; omega
        · skip
          subst h3
          refine lv_tableIn (tgt := 112) (off := 45) hx hb dX2_count_67 (by decide) (by decide) (by decide) (by decide) ?_
          refine lv_aload_n hx hb dX2_count_112 rfl (lv_at hl 3 rfl) ?_
          refine m_get hx hb hts hown hK hW 2 (by decide) q976 rfl (v := .int (iI (F 2))) rfl dX2_count_113 ?_
          have b4 : F 2 ≤ 10 := hF 2
          exact W.iret hx hb hr (fun t ht hWm => ⟨⟨_, rfl, by rw [ht]; exact ⟨by unfold cntV; (repeat' split) <;> omega, hW⟩⟩, hS.F ht⟩) hS.2.2 dX2_count_116
        · skip
          subst h3
          refine lv_tableIn (tgt := 117) (off := 50) hx hb dX2_count_67 (by decide) (by decide) (by decide) (by decide) ?_
          refine lv_aload_n hx hb dX2_count_117 rfl (lv_at hl 3 rfl) ?_
          refine m_get hx hb hts hown hK hW 3 (by decide) q977 rfl (v := .int (iI (F 3))) rfl dX2_count_118 ?_
          have b5 : F 3 ≤ 16 := hF 3
          exact W.iret hx hb hr (fun t ht hWm => ⟨⟨_, rfl, by rw [ht]; exact ⟨by unfold cntV; (repeat' split) <;> omega, hW⟩⟩, hS.F ht⟩) hS.2.2 dX2_count_121
        · skip
          subst h3
          refine lv_tableIn (tgt := 122) (off := 55) hx hb dX2_count_67 (by decide) (by decide) (by decide) (by decide) ?_
          refine lv_aload_n hx hb dX2_count_122 rfl (lv_at hl 3 rfl) ?_
          refine m_get hx hb hts hown hK hW 4 (by decide) q978 rfl (v := .int (iI (F 4))) rfl dX2_count_123 ?_
          exact W.iret hx hb hr (fun t ht hWm => ⟨⟨_, rfl, by rw [ht]; exact ⟨by unfold cntV; (repeat' split) <;> omega, hW⟩⟩, hS.F ht⟩) hS.2.2 dX2_count_126
        · skip
          subst h3
          refine lv_tableIn (tgt := 127) (off := 60) hx hb dX2_count_67 (by decide) (by decide) (by decide) (by decide) ?_
          refine lv_aload_n hx hb dX2_count_127 rfl (lv_at hl 3 rfl) ?_
          refine m_get hx hb hts hown hK hW 1 (by decide) q975 rfl (v := .int (iI (F 1))) rfl dX2_count_128 ?_
          have b6 : F 1 ≤ 1439 := hF 1
          exact W.iret hx hb hr (fun t ht hWm => ⟨⟨_, rfl, by rw [ht]; exact ⟨by unfold cntV; (repeat' split) <;> omega, hW⟩⟩, hS.F ht⟩) hS.2.2 dX2_count_131
        · skip
          subst h3
          refine lv_tableIn (tgt := 132) (off := 65) hx hb dX2_count_67 (by decide) (by decide) (by decide) (by decide) ?_
          refine lv_iload_n hx hb dX2_count_132 rfl (lv_at hl 2 rfl) ?_
          exact W.iret hx hb hr (fun t ht hWm => ⟨⟨_, rfl, by rw [ht]; exact ⟨by unfold cntV; (repeat' split) <;> omega, hW⟩⟩, hS.F ht⟩) hS.2.2 dX2_count_133
        · skip
          subst h3
          refine lv_tableIn (tgt := 134) (off := 67) hx hb dX2_count_67 (by decide) (by decide) (by decide) (by decide) ?_
          refine lv_iload_n hx hb dX2_count_134 rfl (lv_at hl 1 rfl) ?_
          exact W.iret hx hb hr (fun t ht hWm => ⟨⟨_, rfl, by rw [ht]; exact ⟨by unfold cntV; (repeat' split) <;> omega, hW⟩⟩, hS.F ht⟩) hS.2.2 dX2_count_135
        · skip
          subst h3
          refine lv_tableIn (tgt := 136) (off := 69) hx hb dX2_count_67 (by decide) (by decide) (by decide) (by decide) ?_
          refine lv_aload_n hx hb dX2_count_136 rfl (lv_at hl 3 rfl) ?_
          refine lv_aload_n hx hb dX2_count_137 rfl (lv_at hl 3 rfl) ?_
          refine m_get hx hb hts hown hK hW 4 (by decide) q978 rfl (v := .int (iI (F 4))) rfl dX2_count_138 ?_
          refine rc_V (W.runV (As := [.int (iI ((F 4 : Nat)))]) (rest := []) ⟨hx, hb, hml, hown, hts⟩ (mm_marksUpTo l D cA A o ad (va_up (F) 0 (0)) G N X Z K hKb hF hG hN hX hZ (F 4) (by omega)) (cwV 1 hts (lw_V q1250 q1252 qs40 q62 q1253) rfl rfl rfl (by decide +kernel) ⟨Nat.le_of_ble_eq_true rfl, Nat.le_of_ble_eq_true rfl⟩) (preV hK hW.1 rfl hW) rfl rfl hl.1 rfl (lv_room (Nat.le_of_ble_eq_true rfl)) dX2_count_141 ⟨Nat.le_of_ble_eq_true rfl, Nat.le_of_ble_eq_true rfl⟩) ?_
          have b7 : cntB (mkB (hsM N) N) (F 4) ≤ (F 4) := cntB_le _ _
          exact W.iret hx hb hr (fun t ht hWm => ⟨⟨_, rfl, by rw [ht]; exact ⟨by unfold cntV; (repeat' split) <;> omega, hW⟩⟩, hS.F ht⟩) hS.2.2 dX2_count_144
        · skip
          subst h3
          refine lv_tableIn (tgt := 145) (off := 78) hx hb dX2_count_67 (by decide) (by decide) (by decide) (by decide) ?_
          refine lv_aload_n hx hb dX2_count_145 rfl (lv_at hl 3 rfl) ?_
          refine m_get hx hb hts hown hK hW 5 (by decide) q979 rfl (v := .int (iI (F 5))) rfl dX2_count_146 ?_
          have b8 : F 5 ≤ 40 := hF 5
          exact W.iret hx hb hr (fun t ht hWm => ⟨⟨_, rfl, by rw [ht]; exact ⟨by unfold cntV; (repeat' split) <;> omega, hW⟩⟩, hS.F ht⟩) hS.2.2 dX2_count_149
      · skip
        refine lv_iload_n hx hb dX2_count_21 rfl (lv_at hl 2 rfl) ?_
        refine lv_aload_n hx hb dX2_count_22 rfl (lv_at hl 3 rfl) ?_
        refine m_get hx hb hts hown hK hW 23 (by decide) q997 rfl (v := .ref (ad 23)) rfl dX2_count_23 ?_
        refine lv_aload_n hx hb dX2_count_26 rfl (lv_at hl 3 rfl) ?_
        refine lv_iload hx hb dX2_count_27 (lv_at hl 0 rfl) ?_
        refine rc_V (W.runV (As := [.int (iI (a))]) (rest := [.ref (ad 23), .int (iI (cntB (fun b => decide (N 23 (wayN N b) ≠ 0)) a))]) ⟨hx, hb, hml, hown, hts⟩ (mm_wayOf l D cA A o ad (va_up (F) 0 (0)) G N X Z K hKb hF hG hN hX hZ a (by omega)) (cwV 1 hts (lw_V q1125 q1127 qs18 q62 q1128) rfl rfl rfl (by decide +kernel) ⟨Nat.le_of_ble_eq_true rfl, Nat.le_of_ble_eq_true rfl⟩) (preV hK hW.1 rfl hW) rfl rfl hl.1 rfl (lv_room (Nat.le_of_ble_eq_true rfl)) dX2_count_29 ⟨Nat.le_of_ble_eq_true rfl, Nat.le_of_ble_eq_true rfl⟩) ?_
        have b9 : wayN N a < 120 := wayN_lt hN (by omega)
        refine h_zald hx hb hK hW.a23 (wayN N a) (by omega) (by omega) (by decide) dX2_count_32 ?_
        have b10 : N 23 (wayN N a) ≤ 1 := hN 23 (wayN N a)
        refine ri_if_eq (tgt := 40) hx hb (by unfold inR; omega) dX2_count_33 (by decide) (fun h11 => ?_) (fun h11 => ?_)
        · skip
          refine lv_iconst (v := iI (0)) hx hb dX2_count_40 rfl ?_
          refine ri_iadd hx hb dX2_count_41 ?_
          refine ri_top (b := (cntB (fun b => decide (N 23 (wayN N b) ≠ 0)) (a + 1) : Nat)) (cnt_0 (by rw [decide_eq_false (by omega)]; exact Bool.false_ne_true)) ?_
          refine lv_istore_n (lv' := [(2, .int (iI ((cntB (fun b => decide (N 23 (wayN N b) ≠ 0)) (a + 1) : Nat)))), (4, .int (iI (a))), (3, .int (iI (cntB (ltB N) a))), (0, .ref o), (1, .int (iI (w)))]) hx hb dX2_count_42 rfl hl (by decide) rfl (fun ls hl => ?_)
          refine lv_iload_n hx hb dX2_count_43 rfl (lv_at hl 2 rfl) ?_
          refine lv_aload_n hx hb dX2_count_44 rfl (lv_at hl 3 rfl) ?_
          refine lv_iload hx hb dX2_count_45 (lv_at hl 1 rfl) ?_
          refine rc_V (W.runV (As := [.int (iI (a))]) (rest := [.int (iI (cntB (ltB N) a))]) ⟨hx, hb, hml, hown, hts⟩ (mm_isLate l D cA A o ad (va_up (F) 0 (0)) G N X Z K hKb hF hG hN hX hZ a (by omega)) (cwV 1 hts (lw_V q1222 q1224 qs37 q62 q1225) rfl rfl rfl (by decide +kernel) ⟨Nat.le_of_ble_eq_true rfl, Nat.le_of_ble_eq_true rfl⟩) (preV hK hW.1 rfl hW) rfl rfl hl.1 rfl (lv_room (Nat.le_of_ble_eq_true rfl)) dX2_count_47 ⟨Nat.le_of_ble_eq_true rfl, Nat.le_of_ble_eq_true rfl⟩) ?_
          by_cases h12 : (if N 21 a = 0 then (N 19 a : Int) else 1439) < arrN N a
          · rw [if_pos h12]
            refine ri_if_eq (tgt := 57) hx hb (by unfold inR; omega) dX2_count_50 (by decide) (fun h13 => ?_) (fun h13 => ?_)
            · skip
              exfalso; omega
            · skip
              refine lv_iconst (v := iI (1)) hx hb dX2_count_53 rfl ?_
              refine lv_goto (tgt := 58) hx hb dX2_count_54 (by decide) ?_
              refine ri_iadd hx hb dX2_count_58 ?_
              refine ri_top (b := (cntB (ltB N) (a + 1) : Nat)) (cnt_1 (decide_eq_true (by assumption))) ?_
              refine lv_istore_n (lv' := [(3, .int (iI ((cntB (ltB N) (a + 1) : Nat)))), (2, .int (iI ((cntB (fun b => decide (N 23 (wayN N b) ≠ 0)) (a + 1) : Nat)))), (4, .int (iI (a))), (0, .ref o), (1, .int (iI (w)))]) hx hb dX2_count_59 rfl hl (by decide) rfl (fun ls hl => ?_)
              refine lv_iinc (v := iI ((a + 1 : Nat))) (lv' := [(4, .int (iI ((a + 1 : Nat)))), (3, .int (iI ((cntB (ltB N) (a + 1) : Nat)))), (2, .int (iI ((cntB (fun b => decide (N 23 (wayN N b) ≠ 0)) (a + 1) : Nat)))), (0, .ref o), (1, .int (iI (w)))]) hx hb dX2_count_60 hl (k := 2) rfl (iI_succ _) (by decide) rfl (fun ls hl => ?_)
              refine lv_goto (tgt := 12) hx hb dX2_count_63 (by decide) ?_
              exact ih12 (a + 1) (by omega) (by omega) _ _ _ hW hS (lv_sub hl [0, 1, 2, 3, 4] rfl)
          · rw [if_neg h12]
            refine ri_if_eq (tgt := 57) hx hb (by unfold inR; omega) dX2_count_50 (by decide) (fun h14 => ?_) (fun h14 => ?_)
            · skip
              refine lv_iconst (v := iI (0)) hx hb dX2_count_57 rfl ?_
              refine ri_iadd hx hb dX2_count_58 ?_
              refine ri_top (b := (cntB (ltB N) (a + 1) : Nat)) (cnt_0 (by unfold ltB; rw [decide_eq_false (by assumption)]; exact Bool.false_ne_true)) ?_
              refine lv_istore_n (lv' := [(3, .int (iI ((cntB (ltB N) (a + 1) : Nat)))), (2, .int (iI ((cntB (fun b => decide (N 23 (wayN N b) ≠ 0)) (a + 1) : Nat)))), (4, .int (iI (a))), (0, .ref o), (1, .int (iI (w)))]) hx hb dX2_count_59 rfl hl (by decide) rfl (fun ls hl => ?_)
              refine lv_iinc (v := iI ((a + 1 : Nat))) (lv' := [(4, .int (iI ((a + 1 : Nat)))), (3, .int (iI ((cntB (ltB N) (a + 1) : Nat)))), (2, .int (iI ((cntB (fun b => decide (N 23 (wayN N b) ≠ 0)) (a + 1) : Nat)))), (0, .ref o), (1, .int (iI (w)))]) hx hb dX2_count_60 hl (k := 2) rfl (iI_succ _) (by decide) rfl (fun ls hl => ?_)
              refine lv_goto (tgt := 12) hx hb dX2_count_63 (by decide) ?_
              exact ih12 (a + 1) (by omega) (by omega) _ _ _ hW hS (lv_sub hl [0, 1, 2, 3, 4] rfl)
            · skip
              exfalso; omega
        · skip
          refine lv_iconst (v := iI (1)) hx hb dX2_count_36 rfl ?_
          refine lv_goto (tgt := 41) hx hb dX2_count_37 (by decide) ?_
          refine ri_iadd hx hb dX2_count_41 ?_
          refine ri_top (b := (cntB (fun b => decide (N 23 (wayN N b) ≠ 0)) (a + 1) : Nat)) (cnt_1 (decide_eq_true (by omega))) ?_
          refine lv_istore_n (lv' := [(2, .int (iI ((cntB (fun b => decide (N 23 (wayN N b) ≠ 0)) (a + 1) : Nat)))), (4, .int (iI (a))), (3, .int (iI (cntB (ltB N) a))), (0, .ref o), (1, .int (iI (w)))]) hx hb dX2_count_42 rfl hl (by decide) rfl (fun ls hl => ?_)
          refine lv_iload_n hx hb dX2_count_43 rfl (lv_at hl 2 rfl) ?_
          refine lv_aload_n hx hb dX2_count_44 rfl (lv_at hl 3 rfl) ?_
          refine lv_iload hx hb dX2_count_45 (lv_at hl 1 rfl) ?_
          refine rc_V (W.runV (As := [.int (iI (a))]) (rest := [.int (iI (cntB (ltB N) a))]) ⟨hx, hb, hml, hown, hts⟩ (mm_isLate l D cA A o ad (va_up (F) 0 (0)) G N X Z K hKb hF hG hN hX hZ a (by omega)) (cwV 1 hts (lw_V q1222 q1224 qs37 q62 q1225) rfl rfl rfl (by decide +kernel) ⟨Nat.le_of_ble_eq_true rfl, Nat.le_of_ble_eq_true rfl⟩) (preV hK hW.1 rfl hW) rfl rfl hl.1 rfl (lv_room (Nat.le_of_ble_eq_true rfl)) dX2_count_47 ⟨Nat.le_of_ble_eq_true rfl, Nat.le_of_ble_eq_true rfl⟩) ?_
          by_cases h15 : (if N 21 a = 0 then (N 19 a : Int) else 1439) < arrN N a
          · rw [if_pos h15]
            refine ri_if_eq (tgt := 57) hx hb (by unfold inR; omega) dX2_count_50 (by decide) (fun h16 => ?_) (fun h16 => ?_)
            · skip
              exfalso; omega
            · skip
              refine lv_iconst (v := iI (1)) hx hb dX2_count_53 rfl ?_
              refine lv_goto (tgt := 58) hx hb dX2_count_54 (by decide) ?_
              refine ri_iadd hx hb dX2_count_58 ?_
              refine ri_top (b := (cntB (ltB N) (a + 1) : Nat)) (cnt_1 (decide_eq_true (by assumption))) ?_
              refine lv_istore_n (lv' := [(3, .int (iI ((cntB (ltB N) (a + 1) : Nat)))), (2, .int (iI ((cntB (fun b => decide (N 23 (wayN N b) ≠ 0)) (a + 1) : Nat)))), (4, .int (iI (a))), (0, .ref o), (1, .int (iI (w)))]) hx hb dX2_count_59 rfl hl (by decide) rfl (fun ls hl => ?_)
              refine lv_iinc (v := iI ((a + 1 : Nat))) (lv' := [(4, .int (iI ((a + 1 : Nat)))), (3, .int (iI ((cntB (ltB N) (a + 1) : Nat)))), (2, .int (iI ((cntB (fun b => decide (N 23 (wayN N b) ≠ 0)) (a + 1) : Nat)))), (0, .ref o), (1, .int (iI (w)))]) hx hb dX2_count_60 hl (k := 2) rfl (iI_succ _) (by decide) rfl (fun ls hl => ?_)
              refine lv_goto (tgt := 12) hx hb dX2_count_63 (by decide) ?_
              exact ih12 (a + 1) (by omega) (by omega) _ _ _ hW hS (lv_sub hl [0, 1, 2, 3, 4] rfl)
          · rw [if_neg h15]
            refine ri_if_eq (tgt := 57) hx hb (by unfold inR; omega) dX2_count_50 (by decide) (fun h17 => ?_) (fun h17 => ?_)
            · skip
              refine lv_iconst (v := iI (0)) hx hb dX2_count_57 rfl ?_
              refine ri_iadd hx hb dX2_count_58 ?_
              refine ri_top (b := (cntB (ltB N) (a + 1) : Nat)) (cnt_0 (by unfold ltB; rw [decide_eq_false (by assumption)]; exact Bool.false_ne_true)) ?_
              refine lv_istore_n (lv' := [(3, .int (iI ((cntB (ltB N) (a + 1) : Nat)))), (2, .int (iI ((cntB (fun b => decide (N 23 (wayN N b) ≠ 0)) (a + 1) : Nat)))), (4, .int (iI (a))), (0, .ref o), (1, .int (iI (w)))]) hx hb dX2_count_59 rfl hl (by decide) rfl (fun ls hl => ?_)
              refine lv_iinc (v := iI ((a + 1 : Nat))) (lv' := [(4, .int (iI ((a + 1 : Nat)))), (3, .int (iI ((cntB (ltB N) (a + 1) : Nat)))), (2, .int (iI ((cntB (fun b => decide (N 23 (wayN N b) ≠ 0)) (a + 1) : Nat)))), (0, .ref o), (1, .int (iI (w)))]) hx hb dX2_count_60 hl (k := 2) rfl (iI_succ _) (by decide) rfl (fun ls hl => ?_)
              refine lv_goto (tgt := 12) hx hb dX2_count_63 (by decide) ?_
              exact ih12 (a + 1) (by omega) (by omega) _ _ _ hW hS (lv_sub hl [0, 1, 2, 3, 4] rfl)
            · skip
              exfalso; omega
  exact lp12 _ (0) (by omega) (Nat.lt_succ_self _) _ _ _ hW hS (lv_sub hl [0, 1, 2, 3, 4] rfl)

set_option maxHeartbeats 4000000 in
set_option maxRecDepth 100000 in
theorem mm_count_x (l : Launch) (D : va_G) (cA : Nat → ClassId) (A : Nat → Prop) (o : Nat) (ad : Nat → Nat) (F G : Nat → Nat) (N X : Nat → Nat → Nat) (Z : Nat → Int) (K : Nat) (hKb : K ≤ 1000000) (hF : FB F) (hG : GB G) (hN : NB N) (hX : XB X) (hZ : ZB K Z) (w : Int) (q_w : inR w) (hbad : ¬ ∃ v : Nat, w = v ∧ v ≤ 7) : Met l yX2_count (ws_ yX2_count cX2_count 5 (some .int)) ({ frames := 6, cells := 0, slots := 0, locals := 138 }) (Pk D cA [.ref o, .int (iI (w))] (MW D cA A o ad F G N X Z)) (Qi (fun z H' => MW D cA A o ad (va_up (va_up F 0 0) 0 1) G N X Z H') A) 0 0 (A) := by
  refine Met.ofW (cc := cX2_count) (maxL := 5) (ret := (some .int)) (by decide) rfl ?_
  intro p e s m args below meth c s₁ B hml hv
  obtain ⟨rfl, hK, hW⟩ := hv
  have hx := B.exec
  have hb := B.bytes
  have hr := B.returns
  have hts := atoms_spec (ws := ws_ yX2_count cX2_count 5 (some .int)) B.pre
  have hts : ∀ w ∈ lw_all, w.before _ s = true := fun w h => hts w (List.mem_cons_of_mem _ h)
  have hown : s.vm.findClass RX2 = some m.cls := findClass_of_methodNamed B.named
  have hlocks := B.notSynchronized
  have hl := lv_entry ([.ref o, .int (iI (w))]) (n := 5) (Nat.le_of_ble_eq_true rfl)
  rw [lg_entry_eq]
  generalize (lg_sl ([.ref o, .int (iI (w))]) ++ List.replicate (5 - (lg_sl ([.ref o, .int (iI (w))])).length) Slot.unset).toArray = ls at hl ⊢
  have hl : lv_has ls 5 [(0, .ref o), (1, .int (iI (w)))] := hl
  have hS : va_S A s.heap s.heap [] := va_S.rf
  have q_w1 := q_w
  unfold inR at q_w1
  have hF4 : F 4 ≤ 60 := hF 4
  refine lv_aload_n hx hb dX2_count_0 rfl (lv_at hl 0 rfl) ?_
  refine lv_iconst (v := iI (0)) hx hb dX2_count_1 rfl ?_
  refine m_put hx hb hts hown hK hW hS 0 (by decide) q974 rfl rfl rfl (0) rfl dX2_count_2 (fun H locs hW hS => ?_)
  have hF : FB (va_up (F) 0 (0)) := hF.up (by show 0 ≤ 2; omega)
  have e1 : va_up F 0 0 1 = F 1 := rfl
  have e2 : va_up F 0 0 2 = F 2 := rfl
  have e3 : va_up F 0 0 3 = F 3 := rfl
  have e4 : va_up F 0 0 4 = F 4 := rfl
  have e5 : va_up F 0 0 5 = F 5 := rfl
  refine lv_iconst (v := iI (0)) hx hb dX2_count_5 rfl ?_
  refine lv_istore_n (lv' := [(2, .int (iI (0))), (0, .ref o), (1, .int (iI (w)))]) hx hb dX2_count_6 rfl hl (by decide) rfl (fun ls hl => ?_)
  refine lv_iconst (v := iI (0)) hx hb dX2_count_7 rfl ?_
  refine lv_istore_n (lv' := [(3, .int (iI (0))), (2, .int (iI (0))), (0, .ref o), (1, .int (iI (w)))]) hx hb dX2_count_8 rfl hl (by decide) rfl (fun ls hl => ?_)
  refine lv_iconst (v := iI (0)) hx hb dX2_count_9 rfl ?_
  refine lv_istore (lv' := [(4, .int (iI (0))), (3, .int (iI (0))), (2, .int (iI (0))), (0, .ref o), (1, .int (iI (w)))]) hx hb dX2_count_10 hl (by decide) rfl (fun ls hl => ?_)
  have lp12 : ∀ (fuel : Nat) (a : Nat) (ha : a ≤ F 4), F 4 - a < fuel → ∀ (H : Heap) (locs : List Loc) (ls : Array Slot), MW D cA A o ad (va_up (F) 0 (0)) G N X Z H → va_S A s.heap H locs → lv_has ls 5 [(4, .int (iI (a))), (3, .int (iI (cntB (ltB N) a))), (2, .int (iI (cntB (fun b => decide (N 23 (wayN N b) ≠ 0)) a))), (0, .ref o), (1, .int (iI (w)))] → W p l e (headSpec (ws_ yX2_count cX2_count 5 (some .int)) ({ frames := 6, cells := 0, slots := 0, locals := 138 })).room s m ([.ref o, .int (iI (w))] : List Value).toArray below meth c H locs 0 0 (MQ below (Qi (fun z H' => MW D cA A o ad (va_up (va_up F 0 0) 0 1) G N X Z H') A) ([.ref o, .int (iI (w))] : List Value).toArray s 0 0 (A)) (F0 m 12 ls []) := by
    intro fuel
    induction fuel with
    | zero => intro a ha hm; exact absurd hm (Nat.not_lt_zero _)
    | succ fuel ih12 =>
      intro a ha hm12 H locs ls hW hS hl
      have hc1 := cntB_le (fun b => decide (N 23 (wayN N b) ≠ 0)) a
      have hc2 := cntB_le (ltB N) a
      refine lv_iload hx hb dX2_count_12 (lv_at hl 0 rfl) ?_
      refine lv_aload_n hx hb dX2_count_14 rfl (lv_at hl 3 rfl) ?_
      refine m_get hx hb hts hown hK hW 4 (by decide) q978 rfl (v := .int (iI (F 4))) rfl dX2_count_15 ?_
      have b1 : F 4 ≤ 60 := hF 4
      refine ri_icmp_ge (tgt := 66) hx hb (by unfold inR; omega) (by unfold inR; omega) dX2_count_18 (by decide) (fun h2 => ?_) (fun h2 => ?_)
      · skip
        refine lv_iload_n hx hb dX2_count_66 rfl (lv_at hl 4 rfl) ?_
        rcases (by omega : w < 0 ∨ 7 < w ∨ w = 0 ∨ w = 1 ∨ w = 2 ∨ w = 3 ∨ w = 4 ∨ w = 5 ∨ w = 6 ∨ w = 7) with h3 | h3 | h3 | h3 | h3 | h3 | h3 | h3 | h3 | h3
        · skip
          refine lv_tableOut (tgt := 150) hx hb dX2_count_67 (by rw [iI_toInt (by unfold inR; omega)]; omega) (by decide) ?_
          refine lv_aload_n hx hb dX2_count_150 rfl (lv_at hl 3 rfl) ?_
          refine rc_I (W.runV (As := []) (rest := []) ⟨hx, hb, hml, hown, hts⟩ (mm_fail l D cA A o ad (va_up (F) 0 (0)) G N X Z K hKb hF hG hN hX hZ  ) (cwV 0 hts (lw_V q1110 q1112 qs17 q62 q1113) rfl rfl rfl (by decide +kernel) ⟨Nat.le_of_ble_eq_true rfl, Nat.le_of_ble_eq_true rfl⟩) (preV hK hW.1 rfl hW) rfl rfl hl.1 rfl (lv_room (Nat.le_of_ble_eq_true rfl)) dX2_count_151 ⟨Nat.le_of_ble_eq_true rfl, Nat.le_of_ble_eq_true rfl⟩) hS (fun _ _ h => h) (fun _ h => h) (fun z H locs hq hS hz hk => ?_)
          obtain ⟨rfl, hW⟩ := hq
          exact W.iret hx hb hr (fun t ht hWm => ⟨⟨_, rfl, by rw [ht]; exact hW⟩, hS.F ht⟩) hS.2.2 dX2_count_154
        · skip
          refine lv_tableOut (tgt := 150) hx hb dX2_count_67 (by rw [iI_toInt (by unfold inR; omega)]; omega) (by decide) ?_
          refine lv_aload_n hx hb dX2_count_150 rfl (lv_at hl 3 rfl) ?_
          refine rc_I (W.runV (As := []) (rest := []) ⟨hx, hb, hml, hown, hts⟩ (mm_fail l D cA A o ad (va_up (F) 0 (0)) G N X Z K hKb hF hG hN hX hZ  ) (cwV 0 hts (lw_V q1110 q1112 qs17 q62 q1113) rfl rfl rfl (by decide +kernel) ⟨Nat.le_of_ble_eq_true rfl, Nat.le_of_ble_eq_true rfl⟩) (preV hK hW.1 rfl hW) rfl rfl hl.1 rfl (lv_room (Nat.le_of_ble_eq_true rfl)) dX2_count_151 ⟨Nat.le_of_ble_eq_true rfl, Nat.le_of_ble_eq_true rfl⟩) hS (fun _ _ h => h) (fun _ h => h) (fun z H locs hq hS hz hk => ?_)
          obtain ⟨rfl, hW⟩ := hq
          exact W.iret hx hb hr (fun t ht hWm => ⟨⟨_, rfl, by rw [ht]; exact hW⟩, hS.F ht⟩) hS.2.2 dX2_count_154
        · skip
          subst h3
          refine lv_tableIn (tgt := 112) (off := 45) hx hb dX2_count_67 (by decide) (by decide) (by decide) (by decide) ?_
          exact absurd ⟨0, by omega, by omega⟩ hbad
        · skip
          subst h3
          refine lv_tableIn (tgt := 117) (off := 50) hx hb dX2_count_67 (by decide) (by decide) (by decide) (by decide) ?_
          exact absurd ⟨1, by omega, by omega⟩ hbad
        · skip
          subst h3
          refine lv_tableIn (tgt := 122) (off := 55) hx hb dX2_count_67 (by decide) (by decide) (by decide) (by decide) ?_
          exact absurd ⟨2, by omega, by omega⟩ hbad
        · skip
          subst h3
          refine lv_tableIn (tgt := 127) (off := 60) hx hb dX2_count_67 (by decide) (by decide) (by decide) (by decide) ?_
          exact absurd ⟨3, by omega, by omega⟩ hbad
        · skip
          subst h3
          refine lv_tableIn (tgt := 132) (off := 65) hx hb dX2_count_67 (by decide) (by decide) (by decide) (by decide) ?_
          exact absurd ⟨4, by omega, by omega⟩ hbad
        · skip
          subst h3
          refine lv_tableIn (tgt := 134) (off := 67) hx hb dX2_count_67 (by decide) (by decide) (by decide) (by decide) ?_
          exact absurd ⟨5, by omega, by omega⟩ hbad
        · skip
          subst h3
          refine lv_tableIn (tgt := 136) (off := 69) hx hb dX2_count_67 (by decide) (by decide) (by decide) (by decide) ?_
          exact absurd ⟨6, by omega, by omega⟩ hbad
        · skip
          subst h3
          refine lv_tableIn (tgt := 145) (off := 78) hx hb dX2_count_67 (by decide) (by decide) (by decide) (by decide) ?_
          exact absurd ⟨7, by omega, by omega⟩ hbad
      · skip
        refine lv_iload_n hx hb dX2_count_21 rfl (lv_at hl 2 rfl) ?_
        refine lv_aload_n hx hb dX2_count_22 rfl (lv_at hl 3 rfl) ?_
        refine m_get hx hb hts hown hK hW 23 (by decide) q997 rfl (v := .ref (ad 23)) rfl dX2_count_23 ?_
        refine lv_aload_n hx hb dX2_count_26 rfl (lv_at hl 3 rfl) ?_
        refine lv_iload hx hb dX2_count_27 (lv_at hl 0 rfl) ?_
        refine rc_V (W.runV (As := [.int (iI (a))]) (rest := [.ref (ad 23), .int (iI (cntB (fun b => decide (N 23 (wayN N b) ≠ 0)) a))]) ⟨hx, hb, hml, hown, hts⟩ (mm_wayOf l D cA A o ad (va_up (F) 0 (0)) G N X Z K hKb hF hG hN hX hZ a (by omega)) (cwV 1 hts (lw_V q1125 q1127 qs18 q62 q1128) rfl rfl rfl (by decide +kernel) ⟨Nat.le_of_ble_eq_true rfl, Nat.le_of_ble_eq_true rfl⟩) (preV hK hW.1 rfl hW) rfl rfl hl.1 rfl (lv_room (Nat.le_of_ble_eq_true rfl)) dX2_count_29 ⟨Nat.le_of_ble_eq_true rfl, Nat.le_of_ble_eq_true rfl⟩) ?_
        have b4 : wayN N a < 120 := wayN_lt hN (by omega)
        refine h_zald hx hb hK hW.a23 (wayN N a) (by omega) (by omega) (by decide) dX2_count_32 ?_
        have b5 : N 23 (wayN N a) ≤ 1 := hN 23 (wayN N a)
        refine ri_if_eq (tgt := 40) hx hb (by unfold inR; omega) dX2_count_33 (by decide) (fun h6 => ?_) (fun h6 => ?_)
        · skip
          refine lv_iconst (v := iI (0)) hx hb dX2_count_40 rfl ?_
          refine ri_iadd hx hb dX2_count_41 ?_
          refine ri_top (b := (cntB (fun b => decide (N 23 (wayN N b) ≠ 0)) (a + 1) : Nat)) (cnt_0 (by rw [decide_eq_false (by omega)]; exact Bool.false_ne_true)) ?_
          refine lv_istore_n (lv' := [(2, .int (iI ((cntB (fun b => decide (N 23 (wayN N b) ≠ 0)) (a + 1) : Nat)))), (4, .int (iI (a))), (3, .int (iI (cntB (ltB N) a))), (0, .ref o), (1, .int (iI (w)))]) hx hb dX2_count_42 rfl hl (by decide) rfl (fun ls hl => ?_)
          refine lv_iload_n hx hb dX2_count_43 rfl (lv_at hl 2 rfl) ?_
          refine lv_aload_n hx hb dX2_count_44 rfl (lv_at hl 3 rfl) ?_
          refine lv_iload hx hb dX2_count_45 (lv_at hl 1 rfl) ?_
          refine rc_V (W.runV (As := [.int (iI (a))]) (rest := [.int (iI (cntB (ltB N) a))]) ⟨hx, hb, hml, hown, hts⟩ (mm_isLate l D cA A o ad (va_up (F) 0 (0)) G N X Z K hKb hF hG hN hX hZ a (by omega)) (cwV 1 hts (lw_V q1222 q1224 qs37 q62 q1225) rfl rfl rfl (by decide +kernel) ⟨Nat.le_of_ble_eq_true rfl, Nat.le_of_ble_eq_true rfl⟩) (preV hK hW.1 rfl hW) rfl rfl hl.1 rfl (lv_room (Nat.le_of_ble_eq_true rfl)) dX2_count_47 ⟨Nat.le_of_ble_eq_true rfl, Nat.le_of_ble_eq_true rfl⟩) ?_
          by_cases h7 : (if N 21 a = 0 then (N 19 a : Int) else 1439) < arrN N a
          · rw [if_pos h7]
            refine ri_if_eq (tgt := 57) hx hb (by unfold inR; omega) dX2_count_50 (by decide) (fun h8 => ?_) (fun h8 => ?_)
            · skip
              exfalso; omega
            · skip
              refine lv_iconst (v := iI (1)) hx hb dX2_count_53 rfl ?_
              refine lv_goto (tgt := 58) hx hb dX2_count_54 (by decide) ?_
              refine ri_iadd hx hb dX2_count_58 ?_
              refine ri_top (b := (cntB (ltB N) (a + 1) : Nat)) (cnt_1 (decide_eq_true (by assumption))) ?_
              refine lv_istore_n (lv' := [(3, .int (iI ((cntB (ltB N) (a + 1) : Nat)))), (2, .int (iI ((cntB (fun b => decide (N 23 (wayN N b) ≠ 0)) (a + 1) : Nat)))), (4, .int (iI (a))), (0, .ref o), (1, .int (iI (w)))]) hx hb dX2_count_59 rfl hl (by decide) rfl (fun ls hl => ?_)
              refine lv_iinc (v := iI ((a + 1 : Nat))) (lv' := [(4, .int (iI ((a + 1 : Nat)))), (3, .int (iI ((cntB (ltB N) (a + 1) : Nat)))), (2, .int (iI ((cntB (fun b => decide (N 23 (wayN N b) ≠ 0)) (a + 1) : Nat)))), (0, .ref o), (1, .int (iI (w)))]) hx hb dX2_count_60 hl (k := 2) rfl (iI_succ _) (by decide) rfl (fun ls hl => ?_)
              refine lv_goto (tgt := 12) hx hb dX2_count_63 (by decide) ?_
              exact ih12 (a + 1) (by omega) (by omega) _ _ _ hW hS (lv_sub hl [0, 1, 2, 3, 4] rfl)
          · rw [if_neg h7]
            refine ri_if_eq (tgt := 57) hx hb (by unfold inR; omega) dX2_count_50 (by decide) (fun h9 => ?_) (fun h9 => ?_)
            · skip
              refine lv_iconst (v := iI (0)) hx hb dX2_count_57 rfl ?_
              refine ri_iadd hx hb dX2_count_58 ?_
              refine ri_top (b := (cntB (ltB N) (a + 1) : Nat)) (cnt_0 (by unfold ltB; rw [decide_eq_false (by assumption)]; exact Bool.false_ne_true)) ?_
              refine lv_istore_n (lv' := [(3, .int (iI ((cntB (ltB N) (a + 1) : Nat)))), (2, .int (iI ((cntB (fun b => decide (N 23 (wayN N b) ≠ 0)) (a + 1) : Nat)))), (4, .int (iI (a))), (0, .ref o), (1, .int (iI (w)))]) hx hb dX2_count_59 rfl hl (by decide) rfl (fun ls hl => ?_)
              refine lv_iinc (v := iI ((a + 1 : Nat))) (lv' := [(4, .int (iI ((a + 1 : Nat)))), (3, .int (iI ((cntB (ltB N) (a + 1) : Nat)))), (2, .int (iI ((cntB (fun b => decide (N 23 (wayN N b) ≠ 0)) (a + 1) : Nat)))), (0, .ref o), (1, .int (iI (w)))]) hx hb dX2_count_60 hl (k := 2) rfl (iI_succ _) (by decide) rfl (fun ls hl => ?_)
              refine lv_goto (tgt := 12) hx hb dX2_count_63 (by decide) ?_
              exact ih12 (a + 1) (by omega) (by omega) _ _ _ hW hS (lv_sub hl [0, 1, 2, 3, 4] rfl)
            · skip
              exfalso; omega
        · skip
          refine lv_iconst (v := iI (1)) hx hb dX2_count_36 rfl ?_
          refine lv_goto (tgt := 41) hx hb dX2_count_37 (by decide) ?_
          refine ri_iadd hx hb dX2_count_41 ?_
          refine ri_top (b := (cntB (fun b => decide (N 23 (wayN N b) ≠ 0)) (a + 1) : Nat)) (cnt_1 (decide_eq_true (by omega))) ?_
          refine lv_istore_n (lv' := [(2, .int (iI ((cntB (fun b => decide (N 23 (wayN N b) ≠ 0)) (a + 1) : Nat)))), (4, .int (iI (a))), (3, .int (iI (cntB (ltB N) a))), (0, .ref o), (1, .int (iI (w)))]) hx hb dX2_count_42 rfl hl (by decide) rfl (fun ls hl => ?_)
          refine lv_iload_n hx hb dX2_count_43 rfl (lv_at hl 2 rfl) ?_
          refine lv_aload_n hx hb dX2_count_44 rfl (lv_at hl 3 rfl) ?_
          refine lv_iload hx hb dX2_count_45 (lv_at hl 1 rfl) ?_
          refine rc_V (W.runV (As := [.int (iI (a))]) (rest := [.int (iI (cntB (ltB N) a))]) ⟨hx, hb, hml, hown, hts⟩ (mm_isLate l D cA A o ad (va_up (F) 0 (0)) G N X Z K hKb hF hG hN hX hZ a (by omega)) (cwV 1 hts (lw_V q1222 q1224 qs37 q62 q1225) rfl rfl rfl (by decide +kernel) ⟨Nat.le_of_ble_eq_true rfl, Nat.le_of_ble_eq_true rfl⟩) (preV hK hW.1 rfl hW) rfl rfl hl.1 rfl (lv_room (Nat.le_of_ble_eq_true rfl)) dX2_count_47 ⟨Nat.le_of_ble_eq_true rfl, Nat.le_of_ble_eq_true rfl⟩) ?_
          by_cases h10 : (if N 21 a = 0 then (N 19 a : Int) else 1439) < arrN N a
          · rw [if_pos h10]
            refine ri_if_eq (tgt := 57) hx hb (by unfold inR; omega) dX2_count_50 (by decide) (fun h11 => ?_) (fun h11 => ?_)
            · skip
              exfalso; omega
            · skip
              refine lv_iconst (v := iI (1)) hx hb dX2_count_53 rfl ?_
              refine lv_goto (tgt := 58) hx hb dX2_count_54 (by decide) ?_
              refine ri_iadd hx hb dX2_count_58 ?_
              refine ri_top (b := (cntB (ltB N) (a + 1) : Nat)) (cnt_1 (decide_eq_true (by assumption))) ?_
              refine lv_istore_n (lv' := [(3, .int (iI ((cntB (ltB N) (a + 1) : Nat)))), (2, .int (iI ((cntB (fun b => decide (N 23 (wayN N b) ≠ 0)) (a + 1) : Nat)))), (4, .int (iI (a))), (0, .ref o), (1, .int (iI (w)))]) hx hb dX2_count_59 rfl hl (by decide) rfl (fun ls hl => ?_)
              refine lv_iinc (v := iI ((a + 1 : Nat))) (lv' := [(4, .int (iI ((a + 1 : Nat)))), (3, .int (iI ((cntB (ltB N) (a + 1) : Nat)))), (2, .int (iI ((cntB (fun b => decide (N 23 (wayN N b) ≠ 0)) (a + 1) : Nat)))), (0, .ref o), (1, .int (iI (w)))]) hx hb dX2_count_60 hl (k := 2) rfl (iI_succ _) (by decide) rfl (fun ls hl => ?_)
              refine lv_goto (tgt := 12) hx hb dX2_count_63 (by decide) ?_
              exact ih12 (a + 1) (by omega) (by omega) _ _ _ hW hS (lv_sub hl [0, 1, 2, 3, 4] rfl)
          · rw [if_neg h10]
            refine ri_if_eq (tgt := 57) hx hb (by unfold inR; omega) dX2_count_50 (by decide) (fun h12 => ?_) (fun h12 => ?_)
            · skip
              refine lv_iconst (v := iI (0)) hx hb dX2_count_57 rfl ?_
              refine ri_iadd hx hb dX2_count_58 ?_
              refine ri_top (b := (cntB (ltB N) (a + 1) : Nat)) (cnt_0 (by unfold ltB; rw [decide_eq_false (by assumption)]; exact Bool.false_ne_true)) ?_
              refine lv_istore_n (lv' := [(3, .int (iI ((cntB (ltB N) (a + 1) : Nat)))), (2, .int (iI ((cntB (fun b => decide (N 23 (wayN N b) ≠ 0)) (a + 1) : Nat)))), (4, .int (iI (a))), (0, .ref o), (1, .int (iI (w)))]) hx hb dX2_count_59 rfl hl (by decide) rfl (fun ls hl => ?_)
              refine lv_iinc (v := iI ((a + 1 : Nat))) (lv' := [(4, .int (iI ((a + 1 : Nat)))), (3, .int (iI ((cntB (ltB N) (a + 1) : Nat)))), (2, .int (iI ((cntB (fun b => decide (N 23 (wayN N b) ≠ 0)) (a + 1) : Nat)))), (0, .ref o), (1, .int (iI (w)))]) hx hb dX2_count_60 hl (k := 2) rfl (iI_succ _) (by decide) rfl (fun ls hl => ?_)
              refine lv_goto (tgt := 12) hx hb dX2_count_63 (by decide) ?_
              exact ih12 (a + 1) (by omega) (by omega) _ _ _ hW hS (lv_sub hl [0, 1, 2, 3, 4] rfl)
            · skip
              exfalso; omega
  exact lp12 _ (0) (by omega) (Nat.lt_succ_self _) _ _ _ hW hS (lv_sub hl [0, 1, 2, 3, 4] rfl)

set_option maxHeartbeats 4000000 in
set_option maxRecDepth 100000 in
theorem mm_stop (l : Launch) (D : va_G) (cA : Nat → ClassId) (A : Nat → Prop) (o : Nat) (ad : Nat → Nat) (F G : Nat → Nat) (N X : Nat → Nat → Nat) (Z : Nat → Int) (K : Nat) (hKb : K ≤ 1000000) (hF : FB F) (hG : GB G) (hN : NB N) (hX : XB X) (hZ : ZB K Z) (t : Nat) (sv mv : Int) (q_sv : inR sv) (q_mv : inR mv) (ht3 : t < F 3) : Met l yX2_stop (ws_ yX2_stop cX2_stop 7 (some .int)) ({ frames := 2, cells := 0, slots := 0, locals := 51 }) (Pk D cA [.ref o, .int (iI (t)), .int (iI (sv)), .int (iI (mv))] (MW D cA A o ad F G N X Z)) (Qi (fun z H' => (okStop F N t sv mv → anyB (fun k => decide (0 < Z (10 * t + k))) (N 8 t) = false → z = N 8 t ∧ MW D cA A o ad (va_up F 0 0) G (stopN N t sv.toNat mv.toNat) X Z H') ∧ (¬ (okStop F N t sv mv ∧ anyB (fun k => decide (0 < Z (10 * t + k))) (N 8 t) = false) → z = -1 ∧ MW D cA A o ad (va_up F 0 0) G N X Z H')) A) 0 0 (A) := by
  refine Met.ofW (cc := cX2_stop) (maxL := 7) (ret := (some .int)) (by decide) rfl ?_
  intro p e s m args below meth c s₁ B hml hv
  obtain ⟨rfl, hK, hW⟩ := hv
  have hx := B.exec
  have hb := B.bytes
  have hr := B.returns
  have hts := atoms_spec (ws := ws_ yX2_stop cX2_stop 7 (some .int)) B.pre
  have hts : ∀ w ∈ lw_all, w.before _ s = true := fun w h => hts w (List.mem_cons_of_mem _ h)
  have hown : s.vm.findClass RX2 = some m.cls := findClass_of_methodNamed B.named
  have hlocks := B.notSynchronized
  have hl := lv_entry ([.ref o, .int (iI (t)), .int (iI (sv)), .int (iI (mv))]) (n := 7) (Nat.le_of_ble_eq_true rfl)
  rw [lg_entry_eq]
  generalize (lg_sl ([.ref o, .int (iI (t)), .int (iI (sv)), .int (iI (mv))]) ++ List.replicate (7 - (lg_sl ([.ref o, .int (iI (t)), .int (iI (sv)), .int (iI (mv))])).length) Slot.unset).toArray = ls at hl ⊢
  have hl : lv_has ls 7 [(0, .ref o), (1, .int (iI (t))), (2, .int (iI (sv))), (3, .int (iI (mv)))] := hl
  have hS : va_S A s.heap s.heap [] := va_S.rf
  have hF3 : F 3 ≤ 16 := hF 3
  have q_sv1 := q_sv
  unfold inR at q_sv1
  have q_mv1 := q_mv
  unfold inR at q_mv1
  have hN8 : N 8 t ≤ 10 := hN 8 t
  refine lv_aload_n hx hb dX2_stop_0 rfl (lv_at hl 0 rfl) ?_
  refine lv_iconst (v := iI (0)) hx hb dX2_stop_1 rfl ?_
  refine m_put hx hb hts hown hK hW hS 0 (by decide) q974 rfl rfl rfl (0) rfl dX2_stop_2 (fun H locs hW hS => ?_)
  have hF : FB (va_up (F) 0 (0)) := hF.up (by show 0 ≤ 2; omega)
  have e1 : va_up F 0 0 1 = F 1 := rfl
  have e2 : va_up F 0 0 2 = F 2 := rfl
  have e3 : va_up F 0 0 3 = F 3 := rfl
  have e4 : va_up F 0 0 4 = F 4 := rfl
  have e5 : va_up F 0 0 5 = F 5 := rfl
  refine lv_aload_n hx hb dX2_stop_5 rfl (lv_at hl 0 rfl) ?_
  refine lv_iload_n hx hb dX2_stop_6 rfl (lv_at hl 1 rfl) ?_
  refine rc_V (W.runV (As := [.int (iI (t))]) (rest := []) ⟨hx, hb, hml, hown, hts⟩ (mm_isTrain l D cA A o ad (va_up (F) 0 (0)) G N X Z K hKb hF hG hN hX hZ t (by unfold inR; omega)) (cwV 1 hts (lw_V q1106 q1108 qs16 q62 q1109) rfl rfl rfl (by decide +kernel) ⟨Nat.le_of_ble_eq_true rfl, Nat.le_of_ble_eq_true rfl⟩) (preV hK hW.1 rfl hW) rfl rfl hl.1 rfl (lv_room (Nat.le_of_ble_eq_true rfl)) dX2_stop_7 ⟨Nat.le_of_ble_eq_true rfl, Nat.le_of_ble_eq_true rfl⟩) ?_
  rw [if_pos (show 0 ≤ (t : Int) ∧ (t : Int) < ((va_up (F) 0 (0)) 3 : Nat) from by omega)]
  refine ri_if_ne (tgt := 18) hx hb (by unfold inR; omega) dX2_stop_10 (by decide) (fun h2 => ?_) (fun h2 => ?_)
  · skip
    refine lv_aload_n hx hb dX2_stop_18 rfl (lv_at hl 0 rfl) ?_
    refine m_get hx hb hts hown hK hW 8 (by decide) q982 rfl (v := .ref (ad 8)) rfl dX2_stop_19 ?_
    refine lv_iload_n hx hb dX2_stop_22 rfl (lv_at hl 1 rfl) ?_
    refine h_iald hx hb hK hW.a8 (t) (by omega) (by omega) (by decide) dX2_stop_23 ?_
    have b3 : N 8 (t) ≤ 10 := hN 8 (t)
    refine lv_istore (lv' := [(4, .int (iI (N 8 (t)))), (0, .ref o), (1, .int (iI (t))), (2, .int (iI (sv))), (3, .int (iI (mv)))]) hx hb dX2_stop_24 hl (by decide) rfl (fun ls hl => ?_)
    refine lv_iconst (v := iI (0)) hx hb dX2_stop_26 rfl ?_
    refine lv_istore (lv' := [(5, .int (iI (0))), (4, .int (iI (N 8 (t)))), (0, .ref o), (1, .int (iI (t))), (2, .int (iI (sv))), (3, .int (iI (mv)))]) hx hb dX2_stop_27 hl (by decide) rfl (fun ls hl => ?_)
    refine lv_iconst (v := iI (0)) hx hb dX2_stop_29 rfl ?_
    refine lv_istore (lv' := [(6, .int (iI (0))), (5, .int (iI (0))), (4, .int (iI (N 8 (t)))), (0, .ref o), (1, .int (iI (t))), (2, .int (iI (sv))), (3, .int (iI (mv)))]) hx hb dX2_stop_30 hl (by decide) rfl (fun ls hl => ?_)
    have lp32 : ∀ (fuel : Nat) (k pv : Nat) (hk : k ≤ N 8 t) (hpv : pv ≤ 1) (hp : pv = 1 ↔ anyB (fun k => decide (0 < Z (10 * t + k))) k = true), N 8 t - k < fuel → ∀ (H : Heap) (locs : List Loc) (ls : Array Slot), MW D cA A o ad (va_up (F) 0 (0)) G N X Z H → va_S A s.heap H locs → lv_has ls 7 [(6, .int (iI (k))), (5, .int (iI (pv))), (4, .int (iI (N 8 (t)))), (0, .ref o), (1, .int (iI (t))), (2, .int (iI (sv))), (3, .int (iI (mv)))] → W p l e (headSpec (ws_ yX2_stop cX2_stop 7 (some .int)) ({ frames := 2, cells := 0, slots := 0, locals := 51 })).room s m ([.ref o, .int (iI (t)), .int (iI (sv)), .int (iI (mv))] : List Value).toArray below meth c H locs 0 0 (MQ below (Qi (fun z H' => (okStop F N t sv mv → anyB (fun k => decide (0 < Z (10 * t + k))) (N 8 t) = false → z = N 8 t ∧ MW D cA A o ad (va_up F 0 0) G (stopN N t sv.toNat mv.toNat) X Z H') ∧ (¬ (okStop F N t sv mv ∧ anyB (fun k => decide (0 < Z (10 * t + k))) (N 8 t) = false) → z = -1 ∧ MW D cA A o ad (va_up F 0 0) G N X Z H')) A) ([.ref o, .int (iI (t)), .int (iI (sv)), .int (iI (mv))] : List Value).toArray s 0 0 (A)) (F0 m 32 ls []) := by
      intro fuel
      induction fuel with
      | zero => intro k pv hk hpv hp hm; exact absurd hm (Nat.not_lt_zero _)
      | succ fuel ih32 =>
        intro k pv hk hpv hp hm32 H locs ls hW hS hl
        refine lv_iload hx hb dX2_stop_32 (lv_at hl 0 rfl) ?_
        refine lv_iload hx hb dX2_stop_34 (lv_at hl 2 rfl) ?_
        refine ri_icmp_ge (tgt := 62) hx hb (by unfold inR; omega) (by unfold inR; omega) dX2_stop_36 (by decide) (fun h4 => ?_) (fun h4 => ?_)
        · skip
          have hk8 : k = N 8 t := by omega
          rw [hk8] at hp
          refine lv_iload hx hb dX2_stop_62 (lv_at hl 2 rfl) ?_
          refine lv_bipush (v := iI (10)) hx hb dX2_stop_64 (by decide) ?_
          refine ri_icmp_eq (tgt := 97) hx hb (by unfold inR; omega) (by unfold inR; omega) dX2_stop_66 (by decide) (fun h5 => ?_) (fun h5 => ?_)
          · skip
            refine lv_iconst (v := iI (-1)) hx hb dX2_stop_97 rfl ?_
            exact W.iret hx hb hr (fun t ht hWm => ⟨⟨_, rfl, by rw [ht]; exact ⟨fun q z => absurd q (by unfold okStop; first | omega | (have := hp.mp (by omega); rw [z] at this; cases this)), fun _ => ⟨rfl, hW⟩⟩⟩, hS.F ht⟩) hS.2.2 dX2_stop_98
          · skip
            refine lv_iload hx hb dX2_stop_69 (lv_at hl 1 rfl) ?_
            refine ri_if_ne (tgt := 97) hx hb (by unfold inR; omega) dX2_stop_71 (by decide) (fun h6 => ?_) (fun h6 => ?_)
            · skip
              refine lv_iconst (v := iI (-1)) hx hb dX2_stop_97 rfl ?_
              exact W.iret hx hb hr (fun t ht hWm => ⟨⟨_, rfl, by rw [ht]; exact ⟨fun q z => absurd q (by unfold okStop; first | omega | (have := hp.mp (by omega); rw [z] at this; cases this)), fun _ => ⟨rfl, hW⟩⟩⟩, hS.F ht⟩) hS.2.2 dX2_stop_98
            · skip
              refine lv_iload_n hx hb dX2_stop_74 rfl (lv_at hl 5 rfl) ?_
              refine ri_if_lt (tgt := 97) hx hb (by unfold inR; omega) dX2_stop_75 (by decide) (fun h7 => ?_) (fun h7 => ?_)
              · skip
                refine lv_iconst (v := iI (-1)) hx hb dX2_stop_97 rfl ?_
                exact W.iret hx hb hr (fun t ht hWm => ⟨⟨_, rfl, by rw [ht]; exact ⟨fun q z => absurd q (by unfold okStop; first | omega | (have := hp.mp (by omega); rw [z] at this; cases this)), fun _ => ⟨rfl, hW⟩⟩⟩, hS.F ht⟩) hS.2.2 dX2_stop_98
              · skip
                refine lv_iload_n hx hb dX2_stop_78 rfl (lv_at hl 5 rfl) ?_
                refine lv_aload_n hx hb dX2_stop_79 rfl (lv_at hl 3 rfl) ?_
                refine m_get hx hb hts hown hK hW 2 (by decide) q976 rfl (v := .int (iI (F 2))) rfl dX2_stop_80 ?_
                have b8 : F 2 ≤ 10 := hF 2
                refine ri_icmp_ge (tgt := 97) hx hb (by unfold inR; omega) (by unfold inR; omega) dX2_stop_83 (by decide) (fun h9 => ?_) (fun h9 => ?_)
                · skip
                  refine lv_iconst (v := iI (-1)) hx hb dX2_stop_97 rfl ?_
                  exact W.iret hx hb hr (fun t ht hWm => ⟨⟨_, rfl, by rw [ht]; exact ⟨fun q z => absurd q (by unfold okStop; first | omega | (have := hp.mp (by omega); rw [z] at this; cases this)), fun _ => ⟨rfl, hW⟩⟩⟩, hS.F ht⟩) hS.2.2 dX2_stop_98
                · skip
                  refine lv_iload_n hx hb dX2_stop_86 rfl (lv_at hl 6 rfl) ?_
                  refine ri_if_lt (tgt := 97) hx hb (by unfold inR; omega) dX2_stop_87 (by decide) (fun h10 => ?_) (fun h10 => ?_)
                  · skip
                    refine lv_iconst (v := iI (-1)) hx hb dX2_stop_97 rfl ?_
                    exact W.iret hx hb hr (fun t ht hWm => ⟨⟨_, rfl, by rw [ht]; exact ⟨fun q z => absurd q (by unfold okStop; first | omega | (have := hp.mp (by omega); rw [z] at this; cases this)), fun _ => ⟨rfl, hW⟩⟩⟩, hS.F ht⟩) hS.2.2 dX2_stop_98
                  · skip
                    refine lv_iload_n hx hb dX2_stop_90 rfl (lv_at hl 6 rfl) ?_
                    refine lv_sipush (v := iI (1439)) hx hb dX2_stop_91 (by decide) ?_
                    refine ri_icmp_le (tgt := 99) hx hb (by unfold inR; omega) (by unfold inR; omega) dX2_stop_94 (by decide) (fun h11 => ?_) (fun h11 => ?_)
                    · skip
                      refine lv_iload hx hb dX2_stop_99 (lv_at hl 2 rfl) ?_
                      refine ri_if_le (tgt := 140) hx hb (by unfold inR; omega) dX2_stop_101 (by decide) (fun h12 => ?_) (fun h12 => ?_)
                      · skip
                        refine lv_aload_n hx hb dX2_stop_140 rfl (lv_at hl 3 rfl) ?_
                        refine m_get hx hb hts hown hK hW 9 (by decide) q983 rfl (v := .ref (ad 9)) rfl dX2_stop_141 ?_
                        refine lv_iload_n hx hb dX2_stop_144 rfl (lv_at hl 4 rfl) ?_
                        refine lv_iload hx hb dX2_stop_145 (lv_at hl 2 rfl) ?_
                        refine rc_V (W.runS (As := [.int (iI (t)), .int (iI (N 8 (t)))]) (rest := [.ref (ad 9)]) ⟨hx, hb, hml, hown, hts⟩ (mm_node l D cA t (N 8 (t)) ) (va_cwS 2 hts (lw_S q1114 q1115 q62 q1116) rfl rfl rfl (by decide +kernel) ⟨Nat.le_of_ble_eq_true rfl, Nat.le_of_ble_eq_true rfl⟩) (preS hK (B := fun _ => True) trivial) rfl rfl hl.1 rfl (lv_room (Nat.le_of_ble_eq_true rfl)) dX2_stop_147 ⟨Nat.le_of_ble_eq_true rfl, Nat.le_of_ble_eq_true rfl⟩) ?_
                        refine ri_top (b := (10 * t + N 8 t : Nat)) (by omega) ?_
                        refine lv_iload_n hx hb dX2_stop_150 rfl (lv_at hl 5 rfl) ?_
                        refine m_st hx hb hK hW hS 9 (by unfold isA; omega) (by omega) rfl ((10 * t + N 8 t : Nat)) (by omega) (by show _ < 160; omega) (sv.toNat) (by omega) dX2_stop_151 (fun H locs hW hS => ?_)
                        have hN : NB (up2 (N) 9 ((10 * t + N 8 t : Nat)) (sv.toNat)) := hN.up (by show sv.toNat ≤ 9; omega)
                        refine lv_aload_n hx hb dX2_stop_152 rfl (lv_at hl 3 rfl) ?_
                        refine m_get hx hb hts hown hK hW 10 (by decide) q984 rfl (v := .ref (ad 10)) rfl dX2_stop_153 ?_
                        refine lv_iload_n hx hb dX2_stop_156 rfl (lv_at hl 4 rfl) ?_
                        refine lv_iload hx hb dX2_stop_157 (lv_at hl 2 rfl) ?_
                        refine rc_V (W.runS (As := [.int (iI (t)), .int (iI (N 8 (t)))]) (rest := [.ref (ad 10)]) ⟨hx, hb, hml, hown, hts⟩ (mm_node l D cA t (N 8 (t)) ) (va_cwS 2 hts (lw_S q1114 q1115 q62 q1116) rfl rfl rfl (by decide +kernel) ⟨Nat.le_of_ble_eq_true rfl, Nat.le_of_ble_eq_true rfl⟩) (preS hK (B := fun _ => True) trivial) rfl rfl hl.1 rfl (lv_room (Nat.le_of_ble_eq_true rfl)) dX2_stop_159 ⟨Nat.le_of_ble_eq_true rfl, Nat.le_of_ble_eq_true rfl⟩) ?_
                        refine ri_top (b := (10 * t + N 8 t : Nat)) (by omega) ?_
                        refine lv_iload_n hx hb dX2_stop_162 rfl (lv_at hl 6 rfl) ?_
                        refine m_st hx hb hK hW hS 10 (by unfold isA; omega) (by omega) rfl ((10 * t + N 8 t : Nat)) (by omega) (by show _ < 160; omega) (mv.toNat) (by omega) dX2_stop_163 (fun H locs hW hS => ?_)
                        have hN : NB (up2 (up2 (N) 9 ((10 * t + N 8 t : Nat)) (sv.toNat)) 10 ((10 * t + N 8 t : Nat)) (mv.toNat)) := hN.up (by show mv.toNat ≤ 1439; omega)
                        refine lv_aload_n hx hb dX2_stop_164 rfl (lv_at hl 3 rfl) ?_
                        refine m_get hx hb hts hown hK hW 8 (by decide) q982 rfl (v := .ref (ad 8)) rfl dX2_stop_165 ?_
                        refine lv_iload_n hx hb dX2_stop_168 rfl (lv_at hl 4 rfl) ?_
                        refine lv_dup2_11 hx hb dX2_stop_169 rfl rfl ?_
                        refine h_iald hx hb hK hW.a8 (t) (by omega) (by omega) (by decide) dX2_stop_170 ?_
                        have b13 : (up2 (up2 (N) 9 ((10 * t + N 8 t : Nat)) (sv.toNat)) 10 ((10 * t + N 8 t : Nat)) (mv.toNat)) 8 (t) ≤ 10 := hN 8 (t)
                        refine ri_top (b := (N 8 t : Nat)) (by rfl) ?_
                        refine lv_iconst (v := iI (1)) hx hb dX2_stop_171 rfl ?_
                        refine ri_iadd hx hb dX2_stop_172 ?_
                        refine m_st hx hb hK hW hS 8 (by unfold isA; omega) (by omega) rfl (t) (by omega) (by show _ < 16; omega) ((N 8 t : Nat) + 1) (by omega) dX2_stop_173 (fun H locs hW hS => ?_)
                        have hN : NB (up2 (up2 (up2 (N) 9 ((10 * t + N 8 t : Nat)) (sv.toNat)) 10 ((10 * t + N 8 t : Nat)) (mv.toNat)) 8 (t) ((N 8 t : Nat) + 1)) := hN.up (by show ((N 8 t : Nat) + 1) ≤ 10; omega)
                        refine lv_iload hx hb dX2_stop_174 (lv_at hl 2 rfl) ?_
                        exact W.iret hx hb hr (fun t ht hWm => ⟨⟨_, rfl, by rw [ht]; exact ⟨fun _ _ => ⟨rfl, hW⟩, fun q => absurd ⟨(by unfold okStop; omega), (by rw [Bool.eq_false_iff]; intro z; have := hp.mpr z; omega)⟩ q⟩⟩, hS.F ht⟩) hS.2.2 dX2_stop_176
                      · skip
                        refine lv_aload_n hx hb dX2_stop_104 rfl (lv_at hl 3 rfl) ?_
                        refine m_get hx hb hts hown hK hW 10 (by decide) q984 rfl (v := .ref (ad 10)) rfl dX2_stop_105 ?_
                        refine lv_iload_n hx hb dX2_stop_108 rfl (lv_at hl 4 rfl) ?_
                        refine lv_iload hx hb dX2_stop_109 (lv_at hl 2 rfl) ?_
                        refine lv_iconst (v := iI (1)) hx hb dX2_stop_111 rfl ?_
                        refine ri_isub hx hb dX2_stop_112 ?_
                        refine ri_top (b := (N 8 t - 1 : Nat)) (by omega) ?_
                        refine rc_V (W.runS (As := [.int (iI (t)), .int (iI ((N 8 t - 1 : Nat)))]) (rest := [.ref (ad 10)]) ⟨hx, hb, hml, hown, hts⟩ (mm_node l D cA t ((N 8 t - 1 : Nat)) ) (va_cwS 2 hts (lw_S q1114 q1115 q62 q1116) rfl rfl rfl (by decide +kernel) ⟨Nat.le_of_ble_eq_true rfl, Nat.le_of_ble_eq_true rfl⟩) (preS hK (B := fun _ => True) trivial) rfl rfl hl.1 rfl (lv_room (Nat.le_of_ble_eq_true rfl)) dX2_stop_113 ⟨Nat.le_of_ble_eq_true rfl, Nat.le_of_ble_eq_true rfl⟩) ?_
                        refine ri_top (b := (10 * t + (N 8 t - 1) : Nat)) (by omega) ?_
                        refine h_iald hx hb hK hW.a10 ((10 * t + (N 8 t - 1) : Nat)) (by omega) (by omega) (by decide) dX2_stop_116 ?_
                        have b14 : N 10 ((10 * t + (N 8 t - 1) : Nat)) ≤ 1439 := hN 10 ((10 * t + (N 8 t - 1) : Nat))
                        refine lv_iload_n hx hb dX2_stop_117 rfl (lv_at hl 6 rfl) ?_
                        refine ri_icmp_ge (tgt := 138) hx hb (by unfold inR; omega) (by unfold inR; omega) dX2_stop_118 (by decide) (fun h15 => ?_) (fun h15 => ?_)
                        · skip
                          refine lv_iconst (v := iI (-1)) hx hb dX2_stop_138 rfl ?_
                          exact W.iret hx hb hr (fun t ht hWm => ⟨⟨_, rfl, by rw [ht]; exact ⟨fun q _ => absurd q (by unfold okStop; omega), fun _ => ⟨rfl, hW⟩⟩⟩, hS.F ht⟩) hS.2.2 dX2_stop_139
                        · skip
                          refine lv_aload_n hx hb dX2_stop_121 rfl (lv_at hl 3 rfl) ?_
                          refine m_get hx hb hts hown hK hW 9 (by decide) q983 rfl (v := .ref (ad 9)) rfl dX2_stop_122 ?_
                          refine lv_iload_n hx hb dX2_stop_125 rfl (lv_at hl 4 rfl) ?_
                          refine lv_iload hx hb dX2_stop_126 (lv_at hl 2 rfl) ?_
                          refine lv_iconst (v := iI (1)) hx hb dX2_stop_128 rfl ?_
                          refine ri_isub hx hb dX2_stop_129 ?_
                          refine ri_top (b := (N 8 t - 1 : Nat)) (by omega) ?_
                          refine rc_V (W.runS (As := [.int (iI (t)), .int (iI ((N 8 t - 1 : Nat)))]) (rest := [.ref (ad 9)]) ⟨hx, hb, hml, hown, hts⟩ (mm_node l D cA t ((N 8 t - 1 : Nat)) ) (va_cwS 2 hts (lw_S q1114 q1115 q62 q1116) rfl rfl rfl (by decide +kernel) ⟨Nat.le_of_ble_eq_true rfl, Nat.le_of_ble_eq_true rfl⟩) (preS hK (B := fun _ => True) trivial) rfl rfl hl.1 rfl (lv_room (Nat.le_of_ble_eq_true rfl)) dX2_stop_130 ⟨Nat.le_of_ble_eq_true rfl, Nat.le_of_ble_eq_true rfl⟩) ?_
                          refine ri_top (b := (10 * t + (N 8 t - 1) : Nat)) (by omega) ?_
                          refine h_iald hx hb hK hW.a9 ((10 * t + (N 8 t - 1) : Nat)) (by omega) (by omega) (by decide) dX2_stop_133 ?_
                          have b16 : N 9 ((10 * t + (N 8 t - 1) : Nat)) ≤ 9 := hN 9 ((10 * t + (N 8 t - 1) : Nat))
                          refine lv_iload_n hx hb dX2_stop_134 rfl (lv_at hl 5 rfl) ?_
                          refine ri_icmp_ne (tgt := 140) hx hb (by unfold inR; omega) (by unfold inR; omega) dX2_stop_135 (by decide) (fun h17 => ?_) (fun h17 => ?_)
                          · skip
                            refine lv_aload_n hx hb dX2_stop_140 rfl (lv_at hl 3 rfl) ?_
                            refine m_get hx hb hts hown hK hW 9 (by decide) q983 rfl (v := .ref (ad 9)) rfl dX2_stop_141 ?_
                            refine lv_iload_n hx hb dX2_stop_144 rfl (lv_at hl 4 rfl) ?_
                            refine lv_iload hx hb dX2_stop_145 (lv_at hl 2 rfl) ?_
                            refine rc_V (W.runS (As := [.int (iI (t)), .int (iI (N 8 (t)))]) (rest := [.ref (ad 9)]) ⟨hx, hb, hml, hown, hts⟩ (mm_node l D cA t (N 8 (t)) ) (va_cwS 2 hts (lw_S q1114 q1115 q62 q1116) rfl rfl rfl (by decide +kernel) ⟨Nat.le_of_ble_eq_true rfl, Nat.le_of_ble_eq_true rfl⟩) (preS hK (B := fun _ => True) trivial) rfl rfl hl.1 rfl (lv_room (Nat.le_of_ble_eq_true rfl)) dX2_stop_147 ⟨Nat.le_of_ble_eq_true rfl, Nat.le_of_ble_eq_true rfl⟩) ?_
                            refine ri_top (b := (10 * t + N 8 t : Nat)) (by omega) ?_
                            refine lv_iload_n hx hb dX2_stop_150 rfl (lv_at hl 5 rfl) ?_
                            refine m_st hx hb hK hW hS 9 (by unfold isA; omega) (by omega) rfl ((10 * t + N 8 t : Nat)) (by omega) (by show _ < 160; omega) (sv.toNat) (by omega) dX2_stop_151 (fun H locs hW hS => ?_)
                            have hN : NB (up2 (N) 9 ((10 * t + N 8 t : Nat)) (sv.toNat)) := hN.up (by show sv.toNat ≤ 9; omega)
                            refine lv_aload_n hx hb dX2_stop_152 rfl (lv_at hl 3 rfl) ?_
                            refine m_get hx hb hts hown hK hW 10 (by decide) q984 rfl (v := .ref (ad 10)) rfl dX2_stop_153 ?_
                            refine lv_iload_n hx hb dX2_stop_156 rfl (lv_at hl 4 rfl) ?_
                            refine lv_iload hx hb dX2_stop_157 (lv_at hl 2 rfl) ?_
                            refine rc_V (W.runS (As := [.int (iI (t)), .int (iI (N 8 (t)))]) (rest := [.ref (ad 10)]) ⟨hx, hb, hml, hown, hts⟩ (mm_node l D cA t (N 8 (t)) ) (va_cwS 2 hts (lw_S q1114 q1115 q62 q1116) rfl rfl rfl (by decide +kernel) ⟨Nat.le_of_ble_eq_true rfl, Nat.le_of_ble_eq_true rfl⟩) (preS hK (B := fun _ => True) trivial) rfl rfl hl.1 rfl (lv_room (Nat.le_of_ble_eq_true rfl)) dX2_stop_159 ⟨Nat.le_of_ble_eq_true rfl, Nat.le_of_ble_eq_true rfl⟩) ?_
                            refine ri_top (b := (10 * t + N 8 t : Nat)) (by omega) ?_
                            refine lv_iload_n hx hb dX2_stop_162 rfl (lv_at hl 6 rfl) ?_
                            refine m_st hx hb hK hW hS 10 (by unfold isA; omega) (by omega) rfl ((10 * t + N 8 t : Nat)) (by omega) (by show _ < 160; omega) (mv.toNat) (by omega) dX2_stop_163 (fun H locs hW hS => ?_)
                            have hN : NB (up2 (up2 (N) 9 ((10 * t + N 8 t : Nat)) (sv.toNat)) 10 ((10 * t + N 8 t : Nat)) (mv.toNat)) := hN.up (by show mv.toNat ≤ 1439; omega)
                            refine lv_aload_n hx hb dX2_stop_164 rfl (lv_at hl 3 rfl) ?_
                            refine m_get hx hb hts hown hK hW 8 (by decide) q982 rfl (v := .ref (ad 8)) rfl dX2_stop_165 ?_
                            refine lv_iload_n hx hb dX2_stop_168 rfl (lv_at hl 4 rfl) ?_
                            refine lv_dup2_11 hx hb dX2_stop_169 rfl rfl ?_
                            refine h_iald hx hb hK hW.a8 (t) (by omega) (by omega) (by decide) dX2_stop_170 ?_
                            have b18 : (up2 (up2 (N) 9 ((10 * t + N 8 t : Nat)) (sv.toNat)) 10 ((10 * t + N 8 t : Nat)) (mv.toNat)) 8 (t) ≤ 10 := hN 8 (t)
                            refine ri_top (b := (N 8 t : Nat)) (by rfl) ?_
                            refine lv_iconst (v := iI (1)) hx hb dX2_stop_171 rfl ?_
                            refine ri_iadd hx hb dX2_stop_172 ?_
                            refine m_st hx hb hK hW hS 8 (by unfold isA; omega) (by omega) rfl (t) (by omega) (by show _ < 16; omega) ((N 8 t : Nat) + 1) (by omega) dX2_stop_173 (fun H locs hW hS => ?_)
                            have hN : NB (up2 (up2 (up2 (N) 9 ((10 * t + N 8 t : Nat)) (sv.toNat)) 10 ((10 * t + N 8 t : Nat)) (mv.toNat)) 8 (t) ((N 8 t : Nat) + 1)) := hN.up (by show ((N 8 t : Nat) + 1) ≤ 10; omega)
                            refine lv_iload hx hb dX2_stop_174 (lv_at hl 2 rfl) ?_
                            exact W.iret hx hb hr (fun t ht hWm => ⟨⟨_, rfl, by rw [ht]; exact ⟨fun _ _ => ⟨rfl, hW⟩, fun q => absurd ⟨(by unfold okStop; omega), (by rw [Bool.eq_false_iff]; intro z; have := hp.mpr z; omega)⟩ q⟩⟩, hS.F ht⟩) hS.2.2 dX2_stop_176
                          · skip
                            refine lv_iconst (v := iI (-1)) hx hb dX2_stop_138 rfl ?_
                            exact W.iret hx hb hr (fun t ht hWm => ⟨⟨_, rfl, by rw [ht]; exact ⟨fun q _ => absurd q (by unfold okStop; omega), fun _ => ⟨rfl, hW⟩⟩⟩, hS.F ht⟩) hS.2.2 dX2_stop_139
                    · skip
                      refine lv_iconst (v := iI (-1)) hx hb dX2_stop_97 rfl ?_
                      exact W.iret hx hb hr (fun t ht hWm => ⟨⟨_, rfl, by rw [ht]; exact ⟨fun q z => absurd q (by unfold okStop; first | omega | (have := hp.mp (by omega); rw [z] at this; cases this)), fun _ => ⟨rfl, hW⟩⟩⟩, hS.F ht⟩) hS.2.2 dX2_stop_98
        · skip
          refine lv_aload_n hx hb dX2_stop_39 rfl (lv_at hl 3 rfl) ?_
          refine m_get hx hb hts hown hK hW 11 (by decide) q985 rfl (v := .ref (ad 11)) rfl dX2_stop_40 ?_
          refine lv_iload_n hx hb dX2_stop_43 rfl (lv_at hl 4 rfl) ?_
          refine lv_iload hx hb dX2_stop_44 (lv_at hl 0 rfl) ?_
          refine rc_V (W.runS (As := [.int (iI (t)), .int (iI (k))]) (rest := [.ref (ad 11)]) ⟨hx, hb, hml, hown, hts⟩ (mm_node l D cA t k ) (va_cwS 2 hts (lw_S q1114 q1115 q62 q1116) rfl rfl rfl (by decide +kernel) ⟨Nat.le_of_ble_eq_true rfl, Nat.le_of_ble_eq_true rfl⟩) (preS hK (B := fun _ => True) trivial) rfl rfl hl.1 rfl (lv_room (Nat.le_of_ble_eq_true rfl)) dX2_stop_46 ⟨Nat.le_of_ble_eq_true rfl, Nat.le_of_ble_eq_true rfl⟩) ?_
          refine ri_top (b := (10 * t + k : Nat)) (by omega) ?_
          refine h_iald hx hb hK hW.a11 ((10 * t + k : Nat)) (by omega) (by omega) (by decide) dX2_stop_49 ?_
          have b19 : -(K : Int) ≤ Z ((10 * t + k : Nat)) ∧ Z ((10 * t + k : Nat)) ≤ K := hZ ((10 * t + k : Nat))
          refine ri_if_le (tgt := 56) hx hb (by unfold inR; omega) dX2_stop_50 (by decide) (fun h20 => ?_) (fun h20 => ?_)
          · skip
            refine lv_iinc (v := iI ((k + 1 : Nat))) (lv' := [(6, .int (iI ((k + 1 : Nat)))), (5, .int (iI (pv))), (4, .int (iI (N 8 (t)))), (0, .ref o), (1, .int (iI (t))), (2, .int (iI (sv))), (3, .int (iI (mv)))]) hx hb dX2_stop_56 hl (k := 0) rfl (iI_succ _) (by decide) rfl (fun ls hl => ?_)
            refine lv_goto (tgt := 32) hx hb dX2_stop_59 (by decide) ?_
            exact ih32 (k + 1) (pv) (by omega) (by omega) (by rw [anyB, decide_eq_false (by omega), Bool.or_false]; exact hp) (by omega) _ _ _ hW hS (lv_sub hl [0, 1, 2, 3, 4, 5, 6] rfl)
          · skip
            refine lv_iconst (v := iI (1)) hx hb dX2_stop_53 rfl ?_
            refine lv_istore (lv' := [(5, .int (iI (1))), (6, .int (iI (k))), (4, .int (iI (N 8 (t)))), (0, .ref o), (1, .int (iI (t))), (2, .int (iI (sv))), (3, .int (iI (mv)))]) hx hb dX2_stop_54 hl (by decide) rfl (fun ls hl => ?_)
            refine lv_iinc (v := iI ((k + 1 : Nat))) (lv' := [(6, .int (iI ((k + 1 : Nat)))), (5, .int (iI (1))), (4, .int (iI (N 8 (t)))), (0, .ref o), (1, .int (iI (t))), (2, .int (iI (sv))), (3, .int (iI (mv)))]) hx hb dX2_stop_56 hl (k := 1) rfl (iI_succ _) (by decide) rfl (fun ls hl => ?_)
            refine lv_goto (tgt := 32) hx hb dX2_stop_59 (by decide) ?_
            exact ih32 (k + 1) (1) (by omega) (by omega) (by rw [anyB, decide_eq_true (by omega)]; simp) (by omega) _ _ _ hW hS (lv_sub hl [0, 1, 2, 3, 4, 5, 6] rfl)
    exact lp32 _ (0) (0) (Nat.zero_le _) (by omega) (by simp [anyB]) (Nat.lt_succ_self _) _ _ _ hW hS (lv_sub hl [0, 1, 2, 3, 4, 5, 6] rfl)
  · skip
    exfalso; omega

set_option maxHeartbeats 4000000 in
set_option maxRecDepth 100000 in
theorem mm_stop_x (l : Launch) (D : va_G) (cA : Nat → ClassId) (A : Nat → Prop) (o : Nat) (ad : Nat → Nat) (F G : Nat → Nat) (N X : Nat → Nat → Nat) (Z : Nat → Int) (K : Nat) (hKb : K ≤ 1000000) (hF : FB F) (hG : GB G) (hN : NB N) (hX : XB X) (hZ : ZB K Z) (t sv mv : Int) (q_t : inR t) (q_sv : inR sv) (q_mv : inR mv) (hbad : ¬ ∃ a : Nat, t = a ∧ a < F 3) : Met l yX2_stop (ws_ yX2_stop cX2_stop 7 (some .int)) ({ frames := 2, cells := 0, slots := 0, locals := 51 }) (Pk D cA [.ref o, .int (iI (t)), .int (iI (sv)), .int (iI (mv))] (MW D cA A o ad F G N X Z)) (Qi (fun z H' => MW D cA A o ad (va_up (va_up F 0 0) 0 1) G N X Z H') A) 0 0 (A) := by
  refine Met.ofW (cc := cX2_stop) (maxL := 7) (ret := (some .int)) (by decide) rfl ?_
  intro p e s m args below meth c s₁ B hml hv
  obtain ⟨rfl, hK, hW⟩ := hv
  have hx := B.exec
  have hb := B.bytes
  have hr := B.returns
  have hts := atoms_spec (ws := ws_ yX2_stop cX2_stop 7 (some .int)) B.pre
  have hts : ∀ w ∈ lw_all, w.before _ s = true := fun w h => hts w (List.mem_cons_of_mem _ h)
  have hown : s.vm.findClass RX2 = some m.cls := findClass_of_methodNamed B.named
  have hlocks := B.notSynchronized
  have hl := lv_entry ([.ref o, .int (iI (t)), .int (iI (sv)), .int (iI (mv))]) (n := 7) (Nat.le_of_ble_eq_true rfl)
  rw [lg_entry_eq]
  generalize (lg_sl ([.ref o, .int (iI (t)), .int (iI (sv)), .int (iI (mv))]) ++ List.replicate (7 - (lg_sl ([.ref o, .int (iI (t)), .int (iI (sv)), .int (iI (mv))])).length) Slot.unset).toArray = ls at hl ⊢
  have hl : lv_has ls 7 [(0, .ref o), (1, .int (iI (t))), (2, .int (iI (sv))), (3, .int (iI (mv)))] := hl
  have hS : va_S A s.heap s.heap [] := va_S.rf
  have q_t1 := q_t
  unfold inR at q_t1
  have q_sv1 := q_sv
  unfold inR at q_sv1
  have q_mv1 := q_mv
  unfold inR at q_mv1
  have hF3 : F 3 ≤ 16 := hF 3
  refine lv_aload_n hx hb dX2_stop_0 rfl (lv_at hl 0 rfl) ?_
  refine lv_iconst (v := iI (0)) hx hb dX2_stop_1 rfl ?_
  refine m_put hx hb hts hown hK hW hS 0 (by decide) q974 rfl rfl rfl (0) rfl dX2_stop_2 (fun H locs hW hS => ?_)
  have hF : FB (va_up (F) 0 (0)) := hF.up (by show 0 ≤ 2; omega)
  have e1 : va_up F 0 0 1 = F 1 := rfl
  have e2 : va_up F 0 0 2 = F 2 := rfl
  have e3 : va_up F 0 0 3 = F 3 := rfl
  have e4 : va_up F 0 0 4 = F 4 := rfl
  have e5 : va_up F 0 0 5 = F 5 := rfl
  refine lv_aload_n hx hb dX2_stop_5 rfl (lv_at hl 0 rfl) ?_
  refine lv_iload_n hx hb dX2_stop_6 rfl (lv_at hl 1 rfl) ?_
  refine rc_V (W.runV (As := [.int (iI (t))]) (rest := []) ⟨hx, hb, hml, hown, hts⟩ (mm_isTrain l D cA A o ad (va_up (F) 0 (0)) G N X Z K hKb hF hG hN hX hZ t (by unfold inR; omega)) (cwV 1 hts (lw_V q1106 q1108 qs16 q62 q1109) rfl rfl rfl (by decide +kernel) ⟨Nat.le_of_ble_eq_true rfl, Nat.le_of_ble_eq_true rfl⟩) (preV hK hW.1 rfl hW) rfl rfl hl.1 rfl (lv_room (Nat.le_of_ble_eq_true rfl)) dX2_stop_7 ⟨Nat.le_of_ble_eq_true rfl, Nat.le_of_ble_eq_true rfl⟩) ?_
  rw [if_neg (show ¬ (0 ≤ (t : Int) ∧ (t : Int) < ((va_up (F) 0 (0)) 3 : Nat)) from fun q => hbad ⟨t.toNat, by omega, by omega⟩)]
  refine ri_if_ne (tgt := 18) hx hb (by unfold inR; omega) dX2_stop_10 (by decide) (fun h2 => ?_) (fun h2 => ?_)
  · skip
    exfalso; omega
  · skip
    refine lv_aload_n hx hb dX2_stop_13 rfl (lv_at hl 0 rfl) ?_
    refine rc_I (W.runV (As := []) (rest := []) ⟨hx, hb, hml, hown, hts⟩ (mm_fail l D cA A o ad (va_up (F) 0 (0)) G N X Z K hKb hF hG hN hX hZ  ) (cwV 0 hts (lw_V q1110 q1112 qs17 q62 q1113) rfl rfl rfl (by decide +kernel) ⟨Nat.le_of_ble_eq_true rfl, Nat.le_of_ble_eq_true rfl⟩) (preV hK hW.1 rfl hW) rfl rfl hl.1 rfl (lv_room (Nat.le_of_ble_eq_true rfl)) dX2_stop_14 ⟨Nat.le_of_ble_eq_true rfl, Nat.le_of_ble_eq_true rfl⟩) hS (fun _ _ h => h) (fun _ h => h) (fun z H locs hq hS hz hk => ?_)
    obtain ⟨rfl, hW⟩ := hq
    exact W.iret hx hb hr (fun t ht hWm => ⟨⟨_, rfl, by rw [ht]; exact hW⟩, hS.F ht⟩) hS.2.2 dX2_stop_17

set_option maxHeartbeats 4000000 in
set_option maxRecDepth 100000 in
theorem mm_firstOn (l : Launch) (D : va_G) (cA : Nat → ClassId) (A : Nat → Prop) (o : Nat) (ad : Nat → Nat) (F G : Nat → Nat) (N X : Nat → Nat → Nat) (Z : Nat → Int) (K : Nat) (hKb : K ≤ 1000000) (hF : FB F) (hG : GB G) (hN : NB N) (hX : XB X) (hZ : ZB K Z) (b t : Nat) (hb60 : b < 60) (ht16 : t < 16) : Met l yX2_firstOn (ws_ yX2_firstOn cX2_firstOn 5 (some .int)) ({ frames := 2, cells := 0, slots := 0, locals := 51 }) (Pk D cA [.ref o, .int (iI (b)), .int (iI (t))] (MW D cA A o ad F G N X Z)) (k2_QcV (.int (iI (fOn N (wayN N b) t)))) 0 0 (fun _ => False) := by
  refine Met.ofW (cc := cX2_firstOn) (maxL := 5) (ret := (some .int)) (by decide) rfl ?_
  intro p e s m args below meth c s₁ B hml hv
  obtain ⟨rfl, hK, hW⟩ := hv
  have hx := B.exec
  have hb := B.bytes
  have hr := B.returns
  have hts := atoms_spec (ws := ws_ yX2_firstOn cX2_firstOn 5 (some .int)) B.pre
  have hts : ∀ w ∈ lw_all, w.before _ s = true := fun w h => hts w (List.mem_cons_of_mem _ h)
  have hown : s.vm.findClass RX2 = some m.cls := findClass_of_methodNamed B.named
  have hlocks := B.notSynchronized
  have hl := lv_entry ([.ref o, .int (iI (b)), .int (iI (t))]) (n := 5) (Nat.le_of_ble_eq_true rfl)
  rw [lg_entry_eq]
  generalize (lg_sl ([.ref o, .int (iI (b)), .int (iI (t))]) ++ List.replicate (5 - (lg_sl ([.ref o, .int (iI (b)), .int (iI (t))])).length) Slot.unset).toArray = ls at hl ⊢
  have hl : lv_has ls 5 [(0, .ref o), (1, .int (iI (b))), (2, .int (iI (t)))] := hl
  have hS : va_S A s.heap s.heap [] := va_S.rf
  have hw120 := wayN_lt hN (b := b) hb60
  refine lv_aload_n hx hb dX2_firstOn_0 rfl (lv_at hl 0 rfl) ?_
  refine lv_iload_n hx hb dX2_firstOn_1 rfl (lv_at hl 1 rfl) ?_
  refine rc_V (W.runV (As := [.int (iI (b))]) (rest := []) ⟨hx, hb, hml, hown, hts⟩ (mm_wayOf l D cA A o ad F G N X Z K hKb hF hG hN hX hZ b (by omega)) (cwV 1 hts (lw_V q1125 q1127 qs18 q62 q1128) rfl rfl rfl (by decide +kernel) ⟨Nat.le_of_ble_eq_true rfl, Nat.le_of_ble_eq_true rfl⟩) (preV hK hW.1 rfl hW) rfl rfl hl.1 rfl (lv_room (Nat.le_of_ble_eq_true rfl)) dX2_firstOn_2 ⟨Nat.le_of_ble_eq_true rfl, Nat.le_of_ble_eq_true rfl⟩) ?_
  have b1 : wayN N b < 120 := wayN_lt hN (by omega)
  refine lv_istore_n (lv' := [(3, .int (iI (wayN N b))), (0, .ref o), (1, .int (iI (b))), (2, .int (iI (t)))]) hx hb dX2_firstOn_5 rfl hl (by decide) rfl (fun ls hl => ?_)
  refine lv_iconst (v := iI (0)) hx hb dX2_firstOn_6 rfl ?_
  refine lv_istore (lv' := [(4, .int (iI (0))), (3, .int (iI (wayN N b))), (0, .ref o), (1, .int (iI (b))), (2, .int (iI (t)))]) hx hb dX2_firstOn_7 hl (by decide) rfl (fun ls hl => ?_)
  have lp9 : ∀ (fuel : Nat) (i : Nat) (hi : i ≤ N 24 (wayN N b)) (hf : fOn N (wayN N b) t = fOnR N (wayN N b) t (N 24 (wayN N b) - i) i), N 24 (wayN N b) - i < fuel → ∀ (ls : Array Slot), lv_has ls 5 [(4, .int (iI (i))), (3, .int (iI (wayN N b))), (0, .ref o), (1, .int (iI (b))), (2, .int (iI (t)))] → W p l e (headSpec (ws_ yX2_firstOn cX2_firstOn 5 (some .int)) ({ frames := 2, cells := 0, slots := 0, locals := 51 })).room s m ([.ref o, .int (iI (b)), .int (iI (t))] : List Value).toArray below meth c s.heap [] 0 0 (MQ below (k2_QcV (.int (iI (fOn N (wayN N b) t)))) ([.ref o, .int (iI (b)), .int (iI (t))] : List Value).toArray s 0 0 (fun _ => False)) (F0 m 9 ls []) := by
    intro fuel
    induction fuel with
    | zero => intro i hi hf hm; exact absurd hm (Nat.not_lt_zero _)
    | succ fuel ih9 =>
      intro i hi hf hm9 ls hl
      have hm3 : N 24 (wayN N b) ≤ 3 := hN 24 _
      refine lv_iload hx hb dX2_firstOn_9 (lv_at hl 0 rfl) ?_
      refine lv_aload_n hx hb dX2_firstOn_11 rfl (lv_at hl 2 rfl) ?_
      refine m_get hx hb hts hown hK hW 24 (by decide) q998 rfl (v := .ref (ad 24)) rfl dX2_firstOn_12 ?_
      refine lv_iload_n hx hb dX2_firstOn_15 rfl (lv_at hl 1 rfl) ?_
      refine h_iald hx hb hK hW.a24 (wayN N b) (by omega) (by omega) (by decide) dX2_firstOn_16 ?_
      have b2 : N 24 (wayN N b) ≤ 3 := hN 24 (wayN N b)
      refine ri_icmp_ge (tgt := 44) hx hb (by unfold inR; omega) (by unfold inR; omega) dX2_firstOn_17 (by decide) (fun h3 => ?_) (fun h3 => ?_)
      · skip
        refine lv_iconst (v := iI (-1)) hx hb dX2_firstOn_44 rfl ?_
        exact W.iret hx hb hr (fun t ht hWm => ⟨congrArg (fun z => Outcome.returned (some (Value.int (iI z)))) (by rw [hf, show N 24 (wayN N b) - i = 0 by omega, fOnR]), ht⟩) (fun _ h => absurd h List.not_mem_nil) dX2_firstOn_45
      · skip
        refine lv_aload_n hx hb dX2_firstOn_20 rfl (lv_at hl 2 rfl) ?_
        refine m_get hx hb hts hown hK hW 27 (by decide) q1001 rfl (v := .ref (ad 27)) rfl dX2_firstOn_21 ?_
        refine lv_iload_n hx hb dX2_firstOn_24 rfl (lv_at hl 1 rfl) ?_
        refine lv_iload hx hb dX2_firstOn_25 (lv_at hl 0 rfl) ?_
        refine rc_V (W.runS (As := [.int (iI (wayN N b)), .int (iI (i))]) (rest := [.ref (ad 27)]) ⟨hx, hb, hml, hown, hts⟩ (mm_legAt l D cA (wayN N b) i ) (va_cwS 2 hts (lw_S q1163 q1164 q62 q1165) rfl rfl rfl (by decide +kernel) ⟨Nat.le_of_ble_eq_true rfl, Nat.le_of_ble_eq_true rfl⟩) (preS hK (B := fun _ => True) trivial) rfl rfl hl.1 rfl (lv_room (Nat.le_of_ble_eq_true rfl)) dX2_firstOn_27 ⟨Nat.le_of_ble_eq_true rfl, Nat.le_of_ble_eq_true rfl⟩) ?_
        refine ri_top (b := (3 * wayN N b + i : Nat)) (by omega) ?_
        refine h_iald hx hb hK hW.a27 ((3 * wayN N b + i : Nat)) (by omega) (by omega) (by decide) dX2_firstOn_30 ?_
        have b4 : N 27 ((3 * wayN N b + i : Nat)) ≤ 15 := hN 27 ((3 * wayN N b + i : Nat))
        refine lv_iload_n hx hb dX2_firstOn_31 rfl (lv_at hl 4 rfl) ?_
        refine ri_icmp_ne (tgt := 38) hx hb (by unfold inR; omega) (by unfold inR; omega) dX2_firstOn_32 (by decide) (fun h5 => ?_) (fun h5 => ?_)
        · skip
          refine lv_iinc (v := iI ((i + 1 : Nat))) (lv' := [(4, .int (iI ((i + 1 : Nat)))), (3, .int (iI (wayN N b))), (0, .ref o), (1, .int (iI (b))), (2, .int (iI (t)))]) hx hb dX2_firstOn_38 hl (k := 0) rfl (iI_succ _) (by decide) rfl (fun ls hl => ?_)
          refine lv_goto (tgt := 9) hx hb dX2_firstOn_41 (by decide) ?_
          rw [show N 24 (wayN N b) - i = (N 24 (wayN N b) - (i + 1)) + 1 by omega, fOnR, if_neg (by omega)] at hf
          exact ih9 (i + 1) (by omega) hf (by omega) _ (lv_sub hl [0, 1, 2, 3, 4] rfl)
        · skip
          refine lv_iload hx hb dX2_firstOn_35 (lv_at hl 0 rfl) ?_
          exact W.iret hx hb hr (fun t ht hWm => ⟨congrArg (fun z => Outcome.returned (some (Value.int (iI z)))) (by rw [hf, show N 24 (wayN N b) - i = (N 24 (wayN N b) - (i + 1)) + 1 by omega, fOnR, if_pos (by omega)]), ht⟩) (fun _ h => absurd h List.not_mem_nil) dX2_firstOn_37
  exact lp9 _ (0) (Nat.zero_le _) rfl (Nat.lt_succ_self _) _ (lv_sub hl [0, 1, 2, 3, 4] rfl)
