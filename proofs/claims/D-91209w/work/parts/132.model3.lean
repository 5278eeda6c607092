set_option maxRecDepth 100000
set_option maxHeartbeats 4000000 in
set_option maxRecDepth 100000 in
theorem mm_isAlike (l : Launch) (D : va_G) (cA : Nat → ClassId) (A : Nat → Prop) (o : Nat) (ad : Nat → Nat) (F G : Nat → Nat) (N X : Nat → Nat → Nat) (Z : Nat → Int) (K : Nat) (hKb : K ≤ 1000000) (hF : FB F) (hG : GB G) (hN : NB N) (hX : XB X) (hZ : ZB K Z) (a b : Nat) (ha60 : a < 60) (hb60 : b < 60) : Met l yX2_isAlike (ws_ yX2_isAlike cX2_isAlike 7 (some .boolean)) ({ frames := 2, cells := 0, slots := 0, locals := 51 }) (Pk D cA [.ref o, .int (iI (a)), .int (iI (b))] (MW D cA A o ad F G N X Z)) (k2_QcV (.int (iI (if alk N a b = true then 1 else 0)))) 0 0 (fun _ => False) := by
  refine Met.ofW (cc := cX2_isAlike) (maxL := 7) (ret := (some .boolean)) (by decide) rfl ?_
  intro p e s m args below meth c s₁ B hml hv
  obtain ⟨rfl, hK, hW⟩ := hv
  have hx := B.exec
  have hb := B.bytes
  have hr := B.returns
  have hts := atoms_spec (ws := ws_ yX2_isAlike cX2_isAlike 7 (some .boolean)) B.pre
  have hts : ∀ w ∈ lw_all, w.before _ s = true := fun w h => hts w (List.mem_cons_of_mem _ h)
  have hown : s.vm.findClass RX2 = some m.cls := findClass_of_methodNamed B.named
  have hlocks := B.notSynchronized
  have hl := lv_entry ([.ref o, .int (iI (a)), .int (iI (b))]) (n := 7) (Nat.le_of_ble_eq_true rfl)
  rw [lg_entry_eq]
  generalize (lg_sl ([.ref o, .int (iI (a)), .int (iI (b))]) ++ List.replicate (7 - (lg_sl ([.ref o, .int (iI (a)), .int (iI (b))])).length) Slot.unset).toArray = ls at hl ⊢
  have hl : lv_has ls 7 [(0, .ref o), (1, .int (iI (a))), (2, .int (iI (b)))] := hl
  have hS : va_S A s.heap s.heap [] := va_S.rf
  refine lv_aload_n hx hb dX2_isAlike_0 rfl (lv_at hl 0 rfl) ?_
  refine m_get hx hb hts hown hK hW 24 (by decide) q998 rfl (v := .ref (ad 24)) rfl dX2_isAlike_1 ?_
  refine lv_iconst (v := iI (2)) hx hb dX2_isAlike_4 rfl ?_
  refine lv_iload_n hx hb dX2_isAlike_5 rfl (lv_at hl 1 rfl) ?_
  refine ri_imul hx hb dX2_isAlike_6 ?_
  refine h_iald hx hb hK hW.a24 (2 * a) (by omega) (by omega) (by decide) dX2_isAlike_7 ?_
  have b1 : N 24 (2 * a) ≤ 3 := hN 24 (2 * a)
  refine lv_aload_n hx hb dX2_isAlike_8 rfl (lv_at hl 0 rfl) ?_
  refine m_get hx hb hts hown hK hW 24 (by decide) q998 rfl (v := .ref (ad 24)) rfl dX2_isAlike_9 ?_
  refine lv_iconst (v := iI (2)) hx hb dX2_isAlike_12 rfl ?_
  refine lv_iload_n hx hb dX2_isAlike_13 rfl (lv_at hl 2 rfl) ?_
  refine ri_imul hx hb dX2_isAlike_14 ?_
  refine h_iald hx hb hK hW.a24 (2 * b) (by omega) (by omega) (by decide) dX2_isAlike_15 ?_
  have b2 : N 24 (2 * b) ≤ 3 := hN 24 (2 * b)
  refine ri_icmp_ne (tgt := 23) hx hb (by unfold inR; omega) (by unfold inR; omega) dX2_isAlike_16 (by decide) (fun h3 => ?_) (fun h3 => ?_)
  · skip
    refine lv_iconst (v := iI (0)) hx hb dX2_isAlike_23 rfl ?_
    refine lv_istore_n (lv' := [(3, .int (iI (0))), (0, .ref o), (1, .int (iI (a))), (2, .int (iI (b)))]) hx hb dX2_isAlike_24 rfl hl (by decide) rfl (fun ls hl => ?_)
    refine lv_iconst (v := iI (0)) hx hb dX2_isAlike_25 rfl ?_
    refine lv_istore (lv' := [(4, .int (iI (0))), (3, .int (iI (0))), (0, .ref o), (1, .int (iI (a))), (2, .int (iI (b)))]) hx hb dX2_isAlike_26 hl (by decide) rfl (fun ls hl => ?_)
    have lp28 : ∀ (fuel : Nat) (sv i : Nat) (hs1 : sv ≤ 1) (hi3 : i ≤ 3) (hy : sv = 1 → N 24 (2 * a) = N 24 (2 * b) ∧ i ≤ N 24 (2 * a) ∧ ∀ j, j < i → eqL N a b j = true) (hn : sv = 0 → alk N a b = false), 3 - i + sv < fuel → ∀ (ls : Array Slot), lv_has ls 7 [(4, .int (iI (i))), (3, .int (iI (sv))), (0, .ref o), (1, .int (iI (a))), (2, .int (iI (b)))] → W p l e (headSpec (ws_ yX2_isAlike cX2_isAlike 7 (some .boolean)) ({ frames := 2, cells := 0, slots := 0, locals := 51 })).room s m ([.ref o, .int (iI (a)), .int (iI (b))] : List Value).toArray below meth c s.heap [] 0 0 (MQ below (k2_QcV (.int (iI (if alk N a b = true then 1 else 0)))) ([.ref o, .int (iI (a)), .int (iI (b))] : List Value).toArray s 0 0 (fun _ => False)) (F0 m 28 ls []) := by
      intro fuel
      induction fuel with
      | zero => intro sv i hs1 hi3 hy hn hm; exact absurd hm (Nat.not_lt_zero _)
      | succ fuel ih28 =>
        intro sv i hs1 hi3 hy hn hm28 ls hl
        refine lv_iload_n hx hb dX2_isAlike_28 rfl (lv_at hl 1 rfl) ?_
        refine ri_if_eq (tgt := 128) hx hb (by unfold inR; omega) dX2_isAlike_29 (by decide) (fun h4 => ?_) (fun h4 => ?_)
        · skip
          refine lv_iload_n hx hb dX2_isAlike_128 rfl (lv_at hl 1 rfl) ?_
          have hv : (sv : Int) = if alk N a b = true then 1 else 0 := by
            rcases Nat.lt_or_ge sv 1 with z | z
            · rw [hn (by omega)]; show (sv : Int) = 0; omega
            · rw [alk_yes (hy (by omega)).1 (fun j h => (hy (by omega)).2.2 j (by omega))]; show (sv : Int) = 1; omega
          exact W.zret hx hb hr (nar01 hs1) (fun t ht hWm => ⟨congrArg (fun z => Outcome.returned (some (Value.int (iI z)))) (hv), ht⟩) (fun _ h => absurd h List.not_mem_nil) dX2_isAlike_129
        · skip
          refine lv_iload hx hb dX2_isAlike_32 (lv_at hl 0 rfl) ?_
          refine lv_aload_n hx hb dX2_isAlike_34 rfl (lv_at hl 2 rfl) ?_
          refine m_get hx hb hts hown hK hW 24 (by decide) q998 rfl (v := .ref (ad 24)) rfl dX2_isAlike_35 ?_
          refine lv_iconst (v := iI (2)) hx hb dX2_isAlike_38 rfl ?_
          refine lv_iload_n hx hb dX2_isAlike_39 rfl (lv_at hl 3 rfl) ?_
          refine ri_imul hx hb dX2_isAlike_40 ?_
          refine h_iald hx hb hK hW.a24 (2 * a) (by omega) (by omega) (by decide) dX2_isAlike_41 ?_
          refine ri_icmp_ge (tgt := 128) hx hb (by unfold inR; omega) (by unfold inR; omega) dX2_isAlike_42 (by decide) (fun h5 => ?_) (fun h5 => ?_)
          · skip
            refine lv_iload_n hx hb dX2_isAlike_128 rfl (lv_at hl 1 rfl) ?_
            have hv : (sv : Int) = if alk N a b = true then 1 else 0 := by
              rcases Nat.lt_or_ge sv 1 with z | z
              · rw [hn (by omega)]; show (sv : Int) = 0; omega
              · rw [alk_yes (hy (by omega)).1 (fun j h => (hy (by omega)).2.2 j (by omega))]; show (sv : Int) = 1; omega
            exact W.zret hx hb hr (nar01 hs1) (fun t ht hWm => ⟨congrArg (fun z => Outcome.returned (some (Value.int (iI z)))) (hv), ht⟩) (fun _ h => absurd h List.not_mem_nil) dX2_isAlike_129
          · skip
            refine lv_iconst (v := iI (2)) hx hb dX2_isAlike_45 rfl ?_
            refine lv_iload_n hx hb dX2_isAlike_46 rfl (lv_at hl 3 rfl) ?_
            refine ri_imul hx hb dX2_isAlike_47 ?_
            refine lv_iload hx hb dX2_isAlike_48 (lv_at hl 0 rfl) ?_
            refine rc_V (W.runS (As := [.int (iI (2 * a)), .int (iI (i))]) (rest := []) ⟨hx, hb, hml, hown, hts⟩ (mm_legAt l D cA (2 * a) i ) (va_cwS 2 hts (lw_S q1163 q1164 q62 q1165) rfl rfl rfl (by decide +kernel) ⟨Nat.le_of_ble_eq_true rfl, Nat.le_of_ble_eq_true rfl⟩) (preS hK (B := fun _ => True) trivial) rfl rfl hl.1 rfl (lv_room (Nat.le_of_ble_eq_true rfl)) dX2_isAlike_50 ⟨Nat.le_of_ble_eq_true rfl, Nat.le_of_ble_eq_true rfl⟩) ?_
            refine ri_top (b := (3 * (2 * a) + i : Nat)) (by omega) ?_
            refine lv_istore (lv' := [(5, .int (iI ((3 * (2 * a) + i : Nat)))), (4, .int (iI (i))), (3, .int (iI (sv))), (0, .ref o), (1, .int (iI (a))), (2, .int (iI (b)))]) hx hb dX2_isAlike_53 hl (by decide) rfl (fun ls hl => ?_)
            refine lv_iconst (v := iI (2)) hx hb dX2_isAlike_55 rfl ?_
            refine lv_iload_n hx hb dX2_isAlike_56 rfl (lv_at hl 5 rfl) ?_
            refine ri_imul hx hb dX2_isAlike_57 ?_
            refine lv_iload hx hb dX2_isAlike_58 (lv_at hl 1 rfl) ?_
            refine rc_V (W.runS (As := [.int (iI (2 * b)), .int (iI (i))]) (rest := []) ⟨hx, hb, hml, hown, hts⟩ (mm_legAt l D cA (2 * b) i ) (va_cwS 2 hts (lw_S q1163 q1164 q62 q1165) rfl rfl rfl (by decide +kernel) ⟨Nat.le_of_ble_eq_true rfl, Nat.le_of_ble_eq_true rfl⟩) (preS hK (B := fun _ => True) trivial) rfl rfl hl.1 rfl (lv_room (Nat.le_of_ble_eq_true rfl)) dX2_isAlike_60 ⟨Nat.le_of_ble_eq_true rfl, Nat.le_of_ble_eq_true rfl⟩) ?_
            refine ri_top (b := (3 * (2 * b) + i : Nat)) (by omega) ?_
            refine lv_istore (lv' := [(6, .int (iI ((3 * (2 * b) + i : Nat)))), (5, .int (iI ((3 * (2 * a) + i : Nat)))), (4, .int (iI (i))), (3, .int (iI (sv))), (0, .ref o), (1, .int (iI (a))), (2, .int (iI (b)))]) hx hb dX2_isAlike_63 hl (by decide) rfl (fun ls hl => ?_)
            refine lv_aload_n hx hb dX2_isAlike_65 rfl (lv_at hl 4 rfl) ?_
            refine m_get hx hb hts hown hK hW 27 (by decide) q1001 rfl (v := .ref (ad 27)) rfl dX2_isAlike_66 ?_
            refine lv_iload hx hb dX2_isAlike_69 (lv_at hl 1 rfl) ?_
            refine h_iald hx hb hK hW.a27 ((3 * (2 * a) + i : Nat)) (by omega) (by omega) (by decide) dX2_isAlike_71 ?_
            have b6 : N 27 ((3 * (2 * a) + i : Nat)) ≤ 15 := hN 27 ((3 * (2 * a) + i : Nat))
            refine lv_aload_n hx hb dX2_isAlike_72 rfl (lv_at hl 4 rfl) ?_
            refine m_get hx hb hts hown hK hW 27 (by decide) q1001 rfl (v := .ref (ad 27)) rfl dX2_isAlike_73 ?_
            refine lv_iload hx hb dX2_isAlike_76 (lv_at hl 0 rfl) ?_
            refine h_iald hx hb hK hW.a27 ((3 * (2 * b) + i : Nat)) (by omega) (by omega) (by decide) dX2_isAlike_78 ?_
            have b7 : N 27 ((3 * (2 * b) + i : Nat)) ≤ 15 := hN 27 ((3 * (2 * b) + i : Nat))
            refine ri_icmp_ne (tgt := 120) hx hb (by unfold inR; omega) (by unfold inR; omega) dX2_isAlike_79 (by decide) (fun h8 => ?_) (fun h8 => ?_)
            · skip
              refine lv_iconst (v := iI (0)) hx hb dX2_isAlike_120 rfl ?_
              refine lv_istore_n (lv' := [(3, .int (iI (0))), (6, .int (iI ((3 * (2 * b) + i : Nat)))), (5, .int (iI ((3 * (2 * a) + i : Nat)))), (4, .int (iI (i))), (0, .ref o), (1, .int (iI (a))), (2, .int (iI (b)))]) hx hb dX2_isAlike_121 rfl hl (by decide) rfl (fun ls hl => ?_)
              refine lv_iinc (v := iI ((i + 1 : Nat))) (lv' := [(4, .int (iI ((i + 1 : Nat)))), (3, .int (iI (0))), (6, .int (iI ((3 * (2 * b) + i : Nat)))), (5, .int (iI ((3 * (2 * a) + i : Nat)))), (0, .ref o), (1, .int (iI (a))), (2, .int (iI (b)))]) hx hb dX2_isAlike_122 hl (k := 3) rfl (iI_succ _) (by decide) rfl (fun ls hl => ?_)
              refine lv_goto (tgt := 28) hx hb dX2_isAlike_125 (by decide) ?_
              exact ih28 (0) (i + 1) (by omega) (by omega) (fun q => absurd q (by omega)) (fun _ => alk_no (i := i) (by omega) (by unfold eqL; exact decide_eq_false (by omega))) (by omega) _ (lv_sub hl [0, 1, 4, 5, 6] rfl)
            · skip
              refine lv_aload_n hx hb dX2_isAlike_82 rfl (lv_at hl 4 rfl) ?_
              refine m_get hx hb hts hown hK hW 28 (by decide) q1002 rfl (v := .ref (ad 28)) rfl dX2_isAlike_83 ?_
              refine lv_iload hx hb dX2_isAlike_86 (lv_at hl 1 rfl) ?_
              refine h_iald hx hb hK hW.a28 ((3 * (2 * a) + i : Nat)) (by omega) (by omega) (by decide) dX2_isAlike_88 ?_
              have b9 : N 28 ((3 * (2 * a) + i : Nat)) ≤ 9 := hN 28 ((3 * (2 * a) + i : Nat))
              refine lv_aload_n hx hb dX2_isAlike_89 rfl (lv_at hl 4 rfl) ?_
              refine m_get hx hb hts hown hK hW 28 (by decide) q1002 rfl (v := .ref (ad 28)) rfl dX2_isAlike_90 ?_
              refine lv_iload hx hb dX2_isAlike_93 (lv_at hl 0 rfl) ?_
              refine h_iald hx hb hK hW.a28 ((3 * (2 * b) + i : Nat)) (by omega) (by omega) (by decide) dX2_isAlike_95 ?_
              have b10 : N 28 ((3 * (2 * b) + i : Nat)) ≤ 9 := hN 28 ((3 * (2 * b) + i : Nat))
              refine ri_icmp_ne (tgt := 120) hx hb (by unfold inR; omega) (by unfold inR; omega) dX2_isAlike_96 (by decide) (fun h11 => ?_) (fun h11 => ?_)
              · skip
                refine lv_iconst (v := iI (0)) hx hb dX2_isAlike_120 rfl ?_
                refine lv_istore_n (lv' := [(3, .int (iI (0))), (6, .int (iI ((3 * (2 * b) + i : Nat)))), (5, .int (iI ((3 * (2 * a) + i : Nat)))), (4, .int (iI (i))), (0, .ref o), (1, .int (iI (a))), (2, .int (iI (b)))]) hx hb dX2_isAlike_121 rfl hl (by decide) rfl (fun ls hl => ?_)
                refine lv_iinc (v := iI ((i + 1 : Nat))) (lv' := [(4, .int (iI ((i + 1 : Nat)))), (3, .int (iI (0))), (6, .int (iI ((3 * (2 * b) + i : Nat)))), (5, .int (iI ((3 * (2 * a) + i : Nat)))), (0, .ref o), (1, .int (iI (a))), (2, .int (iI (b)))]) hx hb dX2_isAlike_122 hl (k := 3) rfl (iI_succ _) (by decide) rfl (fun ls hl => ?_)
                refine lv_goto (tgt := 28) hx hb dX2_isAlike_125 (by decide) ?_
                exact ih28 (0) (i + 1) (by omega) (by omega) (fun q => absurd q (by omega)) (fun _ => alk_no (i := i) (by omega) (by unfold eqL; exact decide_eq_false (by omega))) (by omega) _ (lv_sub hl [0, 1, 4, 5, 6] rfl)
              · skip
                refine lv_aload_n hx hb dX2_isAlike_99 rfl (lv_at hl 4 rfl) ?_
                refine m_get hx hb hts hown hK hW 29 (by decide) q1003 rfl (v := .ref (ad 29)) rfl dX2_isAlike_100 ?_
                refine lv_iload hx hb dX2_isAlike_103 (lv_at hl 1 rfl) ?_
                refine h_iald hx hb hK hW.a29 ((3 * (2 * a) + i : Nat)) (by omega) (by omega) (by decide) dX2_isAlike_105 ?_
                have b12 : N 29 ((3 * (2 * a) + i : Nat)) ≤ 9 := hN 29 ((3 * (2 * a) + i : Nat))
                refine lv_aload_n hx hb dX2_isAlike_106 rfl (lv_at hl 4 rfl) ?_
                refine m_get hx hb hts hown hK hW 29 (by decide) q1003 rfl (v := .ref (ad 29)) rfl dX2_isAlike_107 ?_
                refine lv_iload hx hb dX2_isAlike_110 (lv_at hl 0 rfl) ?_
                refine h_iald hx hb hK hW.a29 ((3 * (2 * b) + i : Nat)) (by omega) (by omega) (by decide) dX2_isAlike_112 ?_
                have b13 : N 29 ((3 * (2 * b) + i : Nat)) ≤ 9 := hN 29 ((3 * (2 * b) + i : Nat))
                refine ri_icmp_ne (tgt := 120) hx hb (by unfold inR; omega) (by unfold inR; omega) dX2_isAlike_113 (by decide) (fun h14 => ?_) (fun h14 => ?_)
                · skip
                  refine lv_iconst (v := iI (0)) hx hb dX2_isAlike_120 rfl ?_
                  refine lv_istore_n (lv' := [(3, .int (iI (0))), (6, .int (iI ((3 * (2 * b) + i : Nat)))), (5, .int (iI ((3 * (2 * a) + i : Nat)))), (4, .int (iI (i))), (0, .ref o), (1, .int (iI (a))), (2, .int (iI (b)))]) hx hb dX2_isAlike_121 rfl hl (by decide) rfl (fun ls hl => ?_)
                  refine lv_iinc (v := iI ((i + 1 : Nat))) (lv' := [(4, .int (iI ((i + 1 : Nat)))), (3, .int (iI (0))), (6, .int (iI ((3 * (2 * b) + i : Nat)))), (5, .int (iI ((3 * (2 * a) + i : Nat)))), (0, .ref o), (1, .int (iI (a))), (2, .int (iI (b)))]) hx hb dX2_isAlike_122 hl (k := 3) rfl (iI_succ _) (by decide) rfl (fun ls hl => ?_)
                  refine lv_goto (tgt := 28) hx hb dX2_isAlike_125 (by decide) ?_
                  exact ih28 (0) (i + 1) (by omega) (by omega) (fun q => absurd q (by omega)) (fun _ => alk_no (i := i) (by omega) (by unfold eqL; exact decide_eq_false (by omega))) (by omega) _ (lv_sub hl [0, 1, 4, 5, 6] rfl)
                · skip
                  refine lv_iconst (v := iI (1)) hx hb dX2_isAlike_116 rfl ?_
                  refine lv_goto (tgt := 121) hx hb dX2_isAlike_117 (by decide) ?_
                  refine lv_istore_n (lv' := [(3, .int (iI (1))), (6, .int (iI ((3 * (2 * b) + i : Nat)))), (5, .int (iI ((3 * (2 * a) + i : Nat)))), (4, .int (iI (i))), (0, .ref o), (1, .int (iI (a))), (2, .int (iI (b)))]) hx hb dX2_isAlike_121 rfl hl (by decide) rfl (fun ls hl => ?_)
                  refine lv_iinc (v := iI ((i + 1 : Nat))) (lv' := [(4, .int (iI ((i + 1 : Nat)))), (3, .int (iI (1))), (6, .int (iI ((3 * (2 * b) + i : Nat)))), (5, .int (iI ((3 * (2 * a) + i : Nat)))), (0, .ref o), (1, .int (iI (a))), (2, .int (iI (b)))]) hx hb dX2_isAlike_122 hl (k := 3) rfl (iI_succ _) (by decide) rfl (fun ls hl => ?_)
                  refine lv_goto (tgt := 28) hx hb dX2_isAlike_125 (by decide) ?_
                  exact ih28 (1) (i + 1) (by omega) (by omega) (fun q => ⟨(hy (by omega)).1, by omega, alk_step (hy (by omega)).2.2 (by omega) (by omega) (by omega)⟩) (fun q => absurd q (by omega)) (by omega) _ (lv_sub hl [0, 1, 4, 5, 6] rfl)
    exact lp28 _ (0) (0) (by omega) (by omega) (fun q => ⟨by omega, Nat.zero_le _, fun j h => absurd h (Nat.not_lt_zero _)⟩) (fun q => by first | (exfalso; omega) | exact alk_ne (by omega)) (Nat.lt_succ_self _) _ (lv_sub hl [0, 1, 2, 3, 4] rfl)
  · skip
    refine lv_iconst (v := iI (1)) hx hb dX2_isAlike_19 rfl ?_
    refine lv_goto (tgt := 24) hx hb dX2_isAlike_20 (by decide) ?_
    refine lv_istore_n (lv' := [(3, .int (iI (1))), (0, .ref o), (1, .int (iI (a))), (2, .int (iI (b)))]) hx hb dX2_isAlike_24 rfl hl (by decide) rfl (fun ls hl => ?_)
    refine lv_iconst (v := iI (0)) hx hb dX2_isAlike_25 rfl ?_
    refine lv_istore (lv' := [(4, .int (iI (0))), (3, .int (iI (1))), (0, .ref o), (1, .int (iI (a))), (2, .int (iI (b)))]) hx hb dX2_isAlike_26 hl (by decide) rfl (fun ls hl => ?_)
    have lp28 : ∀ (fuel : Nat) (sv i : Nat) (hs1 : sv ≤ 1) (hi3 : i ≤ 3) (hy : sv = 1 → N 24 (2 * a) = N 24 (2 * b) ∧ i ≤ N 24 (2 * a) ∧ ∀ j, j < i → eqL N a b j = true) (hn : sv = 0 → alk N a b = false), 3 - i + sv < fuel → ∀ (ls : Array Slot), lv_has ls 7 [(4, .int (iI (i))), (3, .int (iI (sv))), (0, .ref o), (1, .int (iI (a))), (2, .int (iI (b)))] → W p l e (headSpec (ws_ yX2_isAlike cX2_isAlike 7 (some .boolean)) ({ frames := 2, cells := 0, slots := 0, locals := 51 })).room s m ([.ref o, .int (iI (a)), .int (iI (b))] : List Value).toArray below meth c s.heap [] 0 0 (MQ below (k2_QcV (.int (iI (if alk N a b = true then 1 else 0)))) ([.ref o, .int (iI (a)), .int (iI (b))] : List Value).toArray s 0 0 (fun _ => False)) (F0 m 28 ls []) := by
      intro fuel
      induction fuel with
      | zero => intro sv i hs1 hi3 hy hn hm; exact absurd hm (Nat.not_lt_zero _)
      | succ fuel ih28 =>
        intro sv i hs1 hi3 hy hn hm28 ls hl
        refine lv_iload_n hx hb dX2_isAlike_28 rfl (lv_at hl 1 rfl) ?_
        refine ri_if_eq (tgt := 128) hx hb (by unfold inR; omega) dX2_isAlike_29 (by decide) (fun h15 => ?_) (fun h15 => ?_)
        · skip
          refine lv_iload_n hx hb dX2_isAlike_128 rfl (lv_at hl 1 rfl) ?_
          have hv : (sv : Int) = if alk N a b = true then 1 else 0 := by
            rcases Nat.lt_or_ge sv 1 with z | z
            · rw [hn (by omega)]; show (sv : Int) = 0; omega
            · rw [alk_yes (hy (by omega)).1 (fun j h => (hy (by omega)).2.2 j (by omega))]; show (sv : Int) = 1; omega
          exact W.zret hx hb hr (nar01 hs1) (fun t ht hWm => ⟨congrArg (fun z => Outcome.returned (some (Value.int (iI z)))) (hv), ht⟩) (fun _ h => absurd h List.not_mem_nil) dX2_isAlike_129
        · skip
          refine lv_iload hx hb dX2_isAlike_32 (lv_at hl 0 rfl) ?_
          refine lv_aload_n hx hb dX2_isAlike_34 rfl (lv_at hl 2 rfl) ?_
          refine m_get hx hb hts hown hK hW 24 (by decide) q998 rfl (v := .ref (ad 24)) rfl dX2_isAlike_35 ?_
          refine lv_iconst (v := iI (2)) hx hb dX2_isAlike_38 rfl ?_
          refine lv_iload_n hx hb dX2_isAlike_39 rfl (lv_at hl 3 rfl) ?_
          refine ri_imul hx hb dX2_isAlike_40 ?_
          refine h_iald hx hb hK hW.a24 (2 * a) (by omega) (by omega) (by decide) dX2_isAlike_41 ?_
          refine ri_icmp_ge (tgt := 128) hx hb (by unfold inR; omega) (by unfold inR; omega) dX2_isAlike_42 (by decide) (fun h16 => ?_) (fun h16 => ?_)
          · skip
            refine lv_iload_n hx hb dX2_isAlike_128 rfl (lv_at hl 1 rfl) ?_
            have hv : (sv : Int) = if alk N a b = true then 1 else 0 := by
              rcases Nat.lt_or_ge sv 1 with z | z
              · rw [hn (by omega)]; show (sv : Int) = 0; omega
              · rw [alk_yes (hy (by omega)).1 (fun j h => (hy (by omega)).2.2 j (by omega))]; show (sv : Int) = 1; omega
            exact W.zret hx hb hr (nar01 hs1) (fun t ht hWm => ⟨congrArg (fun z => Outcome.returned (some (Value.int (iI z)))) (hv), ht⟩) (fun _ h => absurd h List.not_mem_nil) dX2_isAlike_129
          · skip
            refine lv_iconst (v := iI (2)) hx hb dX2_isAlike_45 rfl ?_
            refine lv_iload_n hx hb dX2_isAlike_46 rfl (lv_at hl 3 rfl) ?_
            refine ri_imul hx hb dX2_isAlike_47 ?_
            refine lv_iload hx hb dX2_isAlike_48 (lv_at hl 0 rfl) ?_
            refine rc_V (W.runS (As := [.int (iI (2 * a)), .int (iI (i))]) (rest := []) ⟨hx, hb, hml, hown, hts⟩ (mm_legAt l D cA (2 * a) i ) (va_cwS 2 hts (lw_S q1163 q1164 q62 q1165) rfl rfl rfl (by decide +kernel) ⟨Nat.le_of_ble_eq_true rfl, Nat.le_of_ble_eq_true rfl⟩) (preS hK (B := fun _ => True) trivial) rfl rfl hl.1 rfl (lv_room (Nat.le_of_ble_eq_true rfl)) dX2_isAlike_50 ⟨Nat.le_of_ble_eq_true rfl, Nat.le_of_ble_eq_true rfl⟩) ?_
            refine ri_top (b := (3 * (2 * a) + i : Nat)) (by omega) ?_
            refine lv_istore (lv' := [(5, .int (iI ((3 * (2 * a) + i : Nat)))), (4, .int (iI (i))), (3, .int (iI (sv))), (0, .ref o), (1, .int (iI (a))), (2, .int (iI (b)))]) hx hb dX2_isAlike_53 hl (by decide) rfl (fun ls hl => ?_)
            refine lv_iconst (v := iI (2)) hx hb dX2_isAlike_55 rfl ?_
            refine lv_iload_n hx hb dX2_isAlike_56 rfl (lv_at hl 5 rfl) ?_
            refine ri_imul hx hb dX2_isAlike_57 ?_
            refine lv_iload hx hb dX2_isAlike_58 (lv_at hl 1 rfl) ?_
            refine rc_V (W.runS (As := [.int (iI (2 * b)), .int (iI (i))]) (rest := []) ⟨hx, hb, hml, hown, hts⟩ (mm_legAt l D cA (2 * b) i ) (va_cwS 2 hts (lw_S q1163 q1164 q62 q1165) rfl rfl rfl (by decide +kernel) ⟨Nat.le_of_ble_eq_true rfl, Nat.le_of_ble_eq_true rfl⟩) (preS hK (B := fun _ => True) trivial) rfl rfl hl.1 rfl (lv_room (Nat.le_of_ble_eq_true rfl)) dX2_isAlike_60 ⟨Nat.le_of_ble_eq_true rfl, Nat.le_of_ble_eq_true rfl⟩) ?_
            refine ri_top (b := (3 * (2 * b) + i : Nat)) (by omega) ?_
            refine lv_istore (lv' := [(6, .int (iI ((3 * (2 * b) + i : Nat)))), (5, .int (iI ((3 * (2 * a) + i : Nat)))), (4, .int (iI (i))), (3, .int (iI (sv))), (0, .ref o), (1, .int (iI (a))), (2, .int (iI (b)))]) hx hb dX2_isAlike_63 hl (by decide) rfl (fun ls hl => ?_)
            refine lv_aload_n hx hb dX2_isAlike_65 rfl (lv_at hl 4 rfl) ?_
            refine m_get hx hb hts hown hK hW 27 (by decide) q1001 rfl (v := .ref (ad 27)) rfl dX2_isAlike_66 ?_
            refine lv_iload hx hb dX2_isAlike_69 (lv_at hl 1 rfl) ?_
            refine h_iald hx hb hK hW.a27 ((3 * (2 * a) + i : Nat)) (by omega) (by omega) (by decide) dX2_isAlike_71 ?_
            have b17 : N 27 ((3 * (2 * a) + i : Nat)) ≤ 15 := hN 27 ((3 * (2 * a) + i : Nat))
            refine lv_aload_n hx hb dX2_isAlike_72 rfl (lv_at hl 4 rfl) ?_
            refine m_get hx hb hts hown hK hW 27 (by decide) q1001 rfl (v := .ref (ad 27)) rfl dX2_isAlike_73 ?_
            refine lv_iload hx hb dX2_isAlike_76 (lv_at hl 0 rfl) ?_
            refine h_iald hx hb hK hW.a27 ((3 * (2 * b) + i : Nat)) (by omega) (by omega) (by decide) dX2_isAlike_78 ?_
            have b18 : N 27 ((3 * (2 * b) + i : Nat)) ≤ 15 := hN 27 ((3 * (2 * b) + i : Nat))
            refine ri_icmp_ne (tgt := 120) hx hb (by unfold inR; omega) (by unfold inR; omega) dX2_isAlike_79 (by decide) (fun h19 => ?_) (fun h19 => ?_)
            · skip
              refine lv_iconst (v := iI (0)) hx hb dX2_isAlike_120 rfl ?_
              refine lv_istore_n (lv' := [(3, .int (iI (0))), (6, .int (iI ((3 * (2 * b) + i : Nat)))), (5, .int (iI ((3 * (2 * a) + i : Nat)))), (4, .int (iI (i))), (0, .ref o), (1, .int (iI (a))), (2, .int (iI (b)))]) hx hb dX2_isAlike_121 rfl hl (by decide) rfl (fun ls hl => ?_)
              refine lv_iinc (v := iI ((i + 1 : Nat))) (lv' := [(4, .int (iI ((i + 1 : Nat)))), (3, .int (iI (0))), (6, .int (iI ((3 * (2 * b) + i : Nat)))), (5, .int (iI ((3 * (2 * a) + i : Nat)))), (0, .ref o), (1, .int (iI (a))), (2, .int (iI (b)))]) hx hb dX2_isAlike_122 hl (k := 3) rfl (iI_succ _) (by decide) rfl (fun ls hl => ?_)
              refine lv_goto (tgt := 28) hx hb dX2_isAlike_125 (by decide) ?_
              exact ih28 (0) (i + 1) (by omega) (by omega) (fun q => absurd q (by omega)) (fun _ => alk_no (i := i) (by omega) (by unfold eqL; exact decide_eq_false (by omega))) (by omega) _ (lv_sub hl [0, 1, 4, 5, 6] rfl)
            · skip
              refine lv_aload_n hx hb dX2_isAlike_82 rfl (lv_at hl 4 rfl) ?_
              refine m_get hx hb hts hown hK hW 28 (by decide) q1002 rfl (v := .ref (ad 28)) rfl dX2_isAlike_83 ?_
              refine lv_iload hx hb dX2_isAlike_86 (lv_at hl 1 rfl) ?_
              refine h_iald hx hb hK hW.a28 ((3 * (2 * a) + i : Nat)) (by omega) (by omega) (by decide) dX2_isAlike_88 ?_
              have b20 : N 28 ((3 * (2 * a) + i : Nat)) ≤ 9 := hN 28 ((3 * (2 * a) + i : Nat))
              refine lv_aload_n hx hb dX2_isAlike_89 rfl (lv_at hl 4 rfl) ?_
              refine m_get hx hb hts hown hK hW 28 (by decide) q1002 rfl (v := .ref (ad 28)) rfl dX2_isAlike_90 ?_
              refine lv_iload hx hb dX2_isAlike_93 (lv_at hl 0 rfl) ?_
              refine h_iald hx hb hK hW.a28 ((3 * (2 * b) + i : Nat)) (by omega) (by omega) (by decide) dX2_isAlike_95 ?_
              have b21 : N 28 ((3 * (2 * b) + i : Nat)) ≤ 9 := hN 28 ((3 * (2 * b) + i : Nat))
              refine ri_icmp_ne (tgt := 120) hx hb (by unfold inR; omega) (by unfold inR; omega) dX2_isAlike_96 (by decide) (fun h22 => ?_) (fun h22 => ?_)
              · skip
                refine lv_iconst (v := iI (0)) hx hb dX2_isAlike_120 rfl ?_
                refine lv_istore_n (lv' := [(3, .int (iI (0))), (6, .int (iI ((3 * (2 * b) + i : Nat)))), (5, .int (iI ((3 * (2 * a) + i : Nat)))), (4, .int (iI (i))), (0, .ref o), (1, .int (iI (a))), (2, .int (iI (b)))]) hx hb dX2_isAlike_121 rfl hl (by decide) rfl (fun ls hl => ?_)
                refine lv_iinc (v := iI ((i + 1 : Nat))) (lv' := [(4, .int (iI ((i + 1 : Nat)))), (3, .int (iI (0))), (6, .int (iI ((3 * (2 * b) + i : Nat)))), (5, .int (iI ((3 * (2 * a) + i : Nat)))), (0, .ref o), (1, .int (iI (a))), (2, .int (iI (b)))]) hx hb dX2_isAlike_122 hl (k := 3) rfl (iI_succ _) (by decide) rfl (fun ls hl => ?_)
                refine lv_goto (tgt := 28) hx hb dX2_isAlike_125 (by decide) ?_
                exact ih28 (0) (i + 1) (by omega) (by omega) (fun q => absurd q (by omega)) (fun _ => alk_no (i := i) (by omega) (by unfold eqL; exact decide_eq_false (by omega))) (by omega) _ (lv_sub hl [0, 1, 4, 5, 6] rfl)
              · skip
                refine lv_aload_n hx hb dX2_isAlike_99 rfl (lv_at hl 4 rfl) ?_
                refine m_get hx hb hts hown hK hW 29 (by decide) q1003 rfl (v := .ref (ad 29)) rfl dX2_isAlike_100 ?_
                refine lv_iload hx hb dX2_isAlike_103 (lv_at hl 1 rfl) ?_
                refine h_iald hx hb hK hW.a29 ((3 * (2 * a) + i : Nat)) (by omega) (by omega) (by decide) dX2_isAlike_105 ?_
                have b23 : N 29 ((3 * (2 * a) + i : Nat)) ≤ 9 := hN 29 ((3 * (2 * a) + i : Nat))
                refine lv_aload_n hx hb dX2_isAlike_106 rfl (lv_at hl 4 rfl) ?_
                refine m_get hx hb hts hown hK hW 29 (by decide) q1003 rfl (v := .ref (ad 29)) rfl dX2_isAlike_107 ?_
                refine lv_iload hx hb dX2_isAlike_110 (lv_at hl 0 rfl) ?_
                refine h_iald hx hb hK hW.a29 ((3 * (2 * b) + i : Nat)) (by omega) (by omega) (by decide) dX2_isAlike_112 ?_
                have b24 : N 29 ((3 * (2 * b) + i : Nat)) ≤ 9 := hN 29 ((3 * (2 * b) + i : Nat))
                refine ri_icmp_ne (tgt := 120) hx hb (by unfold inR; omega) (by unfold inR; omega) dX2_isAlike_113 (by decide) (fun h25 => ?_) (fun h25 => ?_)
                · skip
                  refine lv_iconst (v := iI (0)) hx hb dX2_isAlike_120 rfl ?_
                  refine lv_istore_n (lv' := [(3, .int (iI (0))), (6, .int (iI ((3 * (2 * b) + i : Nat)))), (5, .int (iI ((3 * (2 * a) + i : Nat)))), (4, .int (iI (i))), (0, .ref o), (1, .int (iI (a))), (2, .int (iI (b)))]) hx hb dX2_isAlike_121 rfl hl (by decide) rfl (fun ls hl => ?_)
                  refine lv_iinc (v := iI ((i + 1 : Nat))) (lv' := [(4, .int (iI ((i + 1 : Nat)))), (3, .int (iI (0))), (6, .int (iI ((3 * (2 * b) + i : Nat)))), (5, .int (iI ((3 * (2 * a) + i : Nat)))), (0, .ref o), (1, .int (iI (a))), (2, .int (iI (b)))]) hx hb dX2_isAlike_122 hl (k := 3) rfl (iI_succ _) (by decide) rfl (fun ls hl => ?_)
                  refine lv_goto (tgt := 28) hx hb dX2_isAlike_125 (by decide) ?_
                  exact ih28 (0) (i + 1) (by omega) (by omega) (fun q => absurd q (by omega)) (fun _ => alk_no (i := i) (by omega) (by unfold eqL; exact decide_eq_false (by omega))) (by omega) _ (lv_sub hl [0, 1, 4, 5, 6] rfl)
                · skip
                  refine lv_iconst (v := iI (1)) hx hb dX2_isAlike_116 rfl ?_
                  refine lv_goto (tgt := 121) hx hb dX2_isAlike_117 (by decide) ?_
                  refine lv_istore_n (lv' := [(3, .int (iI (1))), (6, .int (iI ((3 * (2 * b) + i : Nat)))), (5, .int (iI ((3 * (2 * a) + i : Nat)))), (4, .int (iI (i))), (0, .ref o), (1, .int (iI (a))), (2, .int (iI (b)))]) hx hb dX2_isAlike_121 rfl hl (by decide) rfl (fun ls hl => ?_)
                  refine lv_iinc (v := iI ((i + 1 : Nat))) (lv' := [(4, .int (iI ((i + 1 : Nat)))), (3, .int (iI (1))), (6, .int (iI ((3 * (2 * b) + i : Nat)))), (5, .int (iI ((3 * (2 * a) + i : Nat)))), (0, .ref o), (1, .int (iI (a))), (2, .int (iI (b)))]) hx hb dX2_isAlike_122 hl (k := 3) rfl (iI_succ _) (by decide) rfl (fun ls hl => ?_)
                  refine lv_goto (tgt := 28) hx hb dX2_isAlike_125 (by decide) ?_
                  exact ih28 (1) (i + 1) (by omega) (by omega) (fun q => ⟨(hy (by omega)).1, by omega, alk_step (hy (by omega)).2.2 (by omega) (by omega) (by omega)⟩) (fun q => absurd q (by omega)) (by omega) _ (lv_sub hl [0, 1, 4, 5, 6] rfl)
    exact lp28 _ (1) (0) (by omega) (by omega) (fun q => ⟨by omega, Nat.zero_le _, fun j h => absurd h (Nat.not_lt_zero _)⟩) (fun q => by first | (exfalso; omega) | exact alk_ne (by omega)) (Nat.lt_succ_self _) _ (lv_sub hl [0, 1, 2, 3, 4] rfl)

set_option maxHeartbeats 4000000 in
set_option maxRecDepth 100000 in
theorem mm_firstLike (l : Launch) (D : va_G) (cA : Nat → ClassId) (A : Nat → Prop) (o : Nat) (ad : Nat → Nat) (F G : Nat → Nat) (N X : Nat → Nat → Nat) (Z : Nat → Int) (K : Nat) (hKb : K ≤ 1000000) (hF : FB F) (hG : GB G) (hN : NB N) (hX : XB X) (hZ : ZB K Z) (b : Nat) (hb60 : b < 60) (hb2 : N 23 (2 * b) ≠ 0) : Met l yX2_firstLike (ws_ yX2_firstLike cX2_firstLike 3 (some .int)) ({ frames := 3, cells := 0, slots := 0, locals := 77 }) (Pk D cA [.ref o, .int (iI (b))] (MW D cA A o ad F G N X Z)) (k2_QcV (.int (iI (flB (hsM N) N b)))) 0 0 (fun _ => False) := by
  refine Met.ofW (cc := cX2_firstLike) (maxL := 3) (ret := (some .int)) (by decide) rfl ?_
  intro p e s m args below meth c s₁ B hml hv
  obtain ⟨rfl, hK, hW⟩ := hv
  have hx := B.exec
  have hb := B.bytes
  have hr := B.returns
  have hts := atoms_spec (ws := ws_ yX2_firstLike cX2_firstLike 3 (some .int)) B.pre
  have hts : ∀ w ∈ lw_all, w.before _ s = true := fun w h => hts w (List.mem_cons_of_mem _ h)
  have hown : s.vm.findClass RX2 = some m.cls := findClass_of_methodNamed B.named
  have hlocks := B.notSynchronized
  have hl := lv_entry ([.ref o, .int (iI (b))]) (n := 3) (Nat.le_of_ble_eq_true rfl)
  rw [lg_entry_eq]
  generalize (lg_sl ([.ref o, .int (iI (b))]) ++ List.replicate (3 - (lg_sl ([.ref o, .int (iI (b))])).length) Slot.unset).toArray = ls at hl ⊢
  have hl : lv_has ls 3 [(0, .ref o), (1, .int (iI (b)))] := hl
  have hS : va_S A s.heap s.heap [] := va_S.rf
  refine lv_iconst (v := iI (0)) hx hb dX2_firstLike_0 rfl ?_
  refine lv_istore_n (lv' := [(2, .int (iI (0))), (0, .ref o), (1, .int (iI (b)))]) hx hb dX2_firstLike_1 rfl hl (by decide) rfl (fun ls hl => ?_)
  have lp2 : ∀ (fuel : Nat) (a : Nat) (hab : a ≤ b) (hno : ∀ i, i < a → (hsM N i && alk N i b) = false), b - a < fuel → ∀ (ls : Array Slot), lv_has ls 3 [(2, .int (iI (a))), (0, .ref o), (1, .int (iI (b)))] → W p l e (headSpec (ws_ yX2_firstLike cX2_firstLike 3 (some .int)) ({ frames := 3, cells := 0, slots := 0, locals := 77 })).room s m ([.ref o, .int (iI (b))] : List Value).toArray below meth c s.heap [] 0 0 (MQ below (k2_QcV (.int (iI (flB (hsM N) N b)))) ([.ref o, .int (iI (b))] : List Value).toArray s 0 0 (fun _ => False)) (F0 m 2 ls []) := by
    intro fuel
    induction fuel with
    | zero => intro a hab hno hm; exact absurd hm (Nat.not_lt_zero _)
    | succ fuel ih2 =>
      intro a hab hno hm2 ls hl
      refine lv_aload_n hx hb dX2_firstLike_2 rfl (lv_at hl 1 rfl) ?_
      refine m_get hx hb hts hown hK hW 23 (by decide) q997 rfl (v := .ref (ad 23)) rfl dX2_firstLike_3 ?_
      refine lv_iconst (v := iI (2)) hx hb dX2_firstLike_6 rfl ?_
      refine lv_iload_n hx hb dX2_firstLike_7 rfl (lv_at hl 0 rfl) ?_
      refine ri_imul hx hb dX2_firstLike_8 ?_
      refine h_zald hx hb hK hW.a23 (2 * a) (by omega) (by omega) (by decide) dX2_firstLike_9 ?_
      have b1 : N 23 (2 * a) ≤ 1 := hN 23 (2 * a)
      refine ri_if_eq (tgt := 22) hx hb (by unfold inR; omega) dX2_firstLike_10 (by decide) (fun h2 => ?_) (fun h2 => ?_)
      · skip
        refine lv_iinc (v := iI ((a + 1 : Nat))) (lv' := [(2, .int (iI ((a + 1 : Nat)))), (0, .ref o), (1, .int (iI (b)))]) hx hb dX2_firstLike_22 hl (k := 0) rfl (iI_succ _) (by decide) rfl (fun ls hl => ?_)
        refine lv_goto (tgt := 2) hx hb dX2_firstLike_25 (by decide) ?_
        have hf : (hsM N a && alk N a b) = false := by first | (unfold hsM; rw [decide_eq_false (by omega)]; rfl) | (rw [Bool.and_eq_false_iff]; exact Or.inr (Bool.eq_false_iff.mpr (by assumption)))
        have hne : a ≠ b := by intro q; subst q; rw [alk_self, Bool.and_true] at hf; unfold hsM at hf; exact absurd (of_decide_eq_false hf) (fun z => z hb2)
        exact ih2 (a + 1) (by omega) (fun i h => by rcases Nat.lt_or_ge i a with z | z; exact hno i z; rw [show i = a by omega]; exact hf) (by omega) _ (lv_sub hl [0, 1, 2] rfl)
      · skip
        refine lv_aload_n hx hb dX2_firstLike_13 rfl (lv_at hl 1 rfl) ?_
        refine lv_iload_n hx hb dX2_firstLike_14 rfl (lv_at hl 0 rfl) ?_
        refine lv_iload_n hx hb dX2_firstLike_15 rfl (lv_at hl 2 rfl) ?_
        refine rc_V (W.runV (As := [.int (iI (a)), .int (iI (b))]) (rest := []) ⟨hx, hb, hml, hown, hts⟩ (mm_isAlike l D cA A o ad F G N X Z K hKb hF hG hN hX hZ a b (by omega) (by omega)) (cwV 2 hts (lw_V q1246 q1248 qs39 q62 q1249) rfl rfl rfl (by decide +kernel) ⟨Nat.le_of_ble_eq_true rfl, Nat.le_of_ble_eq_true rfl⟩) (preV hK hW.1 rfl hW) rfl rfl hl.1 rfl (lv_room (Nat.le_of_ble_eq_true rfl)) dX2_firstLike_16 ⟨Nat.le_of_ble_eq_true rfl, Nat.le_of_ble_eq_true rfl⟩) ?_
        by_cases h3 : alk N a b = true
        · rw [if_pos h3]
          refine ri_if_ne (tgt := 28) hx hb (by unfold inR; omega) dX2_firstLike_19 (by decide) (fun h4 => ?_) (fun h4 => ?_)
          · skip
            refine lv_iload_n hx hb dX2_firstLike_28 rfl (lv_at hl 0 rfl) ?_
            exact W.iret hx hb hr (fun t ht hWm => ⟨congrArg (fun z => Outcome.returned (some (Value.int (iI z)))) (congrArg (fun n : Nat => (n : Int)) (lst_eq a b _ (by show (hsM N a && alk N a b) = true; unfold hsM; rw [decide_eq_true (by omega), Bool.true_and]; assumption) hno hab).symm), ht⟩) (fun _ h => absurd h List.not_mem_nil) dX2_firstLike_29
          · skip
            exfalso; omega
        · rw [if_neg h3]
          refine ri_if_ne (tgt := 28) hx hb (by unfold inR; omega) dX2_firstLike_19 (by decide) (fun h5 => ?_) (fun h5 => ?_)
          · skip
            exfalso; omega
          · skip
            refine lv_iinc (v := iI ((a + 1 : Nat))) (lv' := [(2, .int (iI ((a + 1 : Nat)))), (0, .ref o), (1, .int (iI (b)))]) hx hb dX2_firstLike_22 hl (k := 0) rfl (iI_succ _) (by decide) rfl (fun ls hl => ?_)
            refine lv_goto (tgt := 2) hx hb dX2_firstLike_25 (by decide) ?_
            have hf : (hsM N a && alk N a b) = false := by first | (unfold hsM; rw [decide_eq_false (by omega)]; rfl) | (rw [Bool.and_eq_false_iff]; exact Or.inr (Bool.eq_false_iff.mpr (by assumption)))
            have hne : a ≠ b := by intro q; subst q; rw [alk_self, Bool.and_true] at hf; unfold hsM at hf; exact absurd (of_decide_eq_false hf) (fun z => z hb2)
            exact ih2 (a + 1) (by omega) (fun i h => by rcases Nat.lt_or_ge i a with z | z; exact hno i z; rw [show i = a by omega]; exact hf) (by omega) _ (lv_sub hl [0, 1, 2] rfl)
  exact lp2 _ (0) (by omega) (fun i h => absurd h (Nat.not_lt_zero _)) (Nat.lt_succ_self _) _ (lv_sub hl [0, 1, 2] rfl)

set_option maxHeartbeats 4000000 in
set_option maxRecDepth 100000 in
theorem mm_marksUpTo (l : Launch) (D : va_G) (cA : Nat → ClassId) (A : Nat → Prop) (o : Nat) (ad : Nat → Nat) (F G : Nat → Nat) (N X : Nat → Nat → Nat) (Z : Nat → Int) (K : Nat) (hKb : K ≤ 1000000) (hF : FB F) (hG : GB G) (hN : NB N) (hX : XB X) (hZ : ZB K Z) (n : Nat) (hn60 : n ≤ 60) : Met l yX2_marksUpTo (ws_ yX2_marksUpTo cX2_marksUpTo 4 (some .int)) ({ frames := 4, cells := 0, slots := 0, locals := 99 }) (Pk D cA [.ref o, .int (iI (n))] (MW D cA A o ad F G N X Z)) (k2_QcV (.int (iI (cntB (mkB (hsM N) N) n)))) 0 0 (fun _ => False) := by
  refine Met.ofW (cc := cX2_marksUpTo) (maxL := 4) (ret := (some .int)) (by decide) rfl ?_
  intro p e s m args below meth c s₁ B hml hv
  obtain ⟨rfl, hK, hW⟩ := hv
  have hx := B.exec
  have hb := B.bytes
  have hr := B.returns
  have hts := atoms_spec (ws := ws_ yX2_marksUpTo cX2_marksUpTo 4 (some .int)) B.pre
  have hts : ∀ w ∈ lw_all, w.before _ s = true := fun w h => hts w (List.mem_cons_of_mem _ h)
  have hown : s.vm.findClass RX2 = some m.cls := findClass_of_methodNamed B.named
  have hlocks := B.notSynchronized
  have hl := lv_entry ([.ref o, .int (iI (n))]) (n := 4) (Nat.le_of_ble_eq_true rfl)
  rw [lg_entry_eq]
  generalize (lg_sl ([.ref o, .int (iI (n))]) ++ List.replicate (4 - (lg_sl ([.ref o, .int (iI (n))])).length) Slot.unset).toArray = ls at hl ⊢
  have hl : lv_has ls 4 [(0, .ref o), (1, .int (iI (n)))] := hl
  have hS : va_S A s.heap s.heap [] := va_S.rf
  refine lv_iconst (v := iI (0)) hx hb dX2_marksUpTo_0 rfl ?_
  refine lv_istore_n (lv' := [(2, .int (iI (0))), (0, .ref o), (1, .int (iI (n)))]) hx hb dX2_marksUpTo_1 rfl hl (by decide) rfl (fun ls hl => ?_)
  refine lv_iconst (v := iI (0)) hx hb dX2_marksUpTo_2 rfl ?_
  refine lv_istore_n (lv' := [(3, .int (iI (0))), (2, .int (iI (0))), (0, .ref o), (1, .int (iI (n)))]) hx hb dX2_marksUpTo_3 rfl hl (by decide) rfl (fun ls hl => ?_)
  have lp4 : ∀ (fuel : Nat) (a : Nat) (han : a ≤ n), n - a < fuel → ∀ (ls : Array Slot), lv_has ls 4 [(3, .int (iI (a))), (2, .int (iI (cntB (mkB (hsM N) N) a))), (0, .ref o), (1, .int (iI (n)))] → W p l e (headSpec (ws_ yX2_marksUpTo cX2_marksUpTo 4 (some .int)) ({ frames := 4, cells := 0, slots := 0, locals := 99 })).room s m ([.ref o, .int (iI (n))] : List Value).toArray below meth c s.heap [] 0 0 (MQ below (k2_QcV (.int (iI (cntB (mkB (hsM N) N) n)))) ([.ref o, .int (iI (n))] : List Value).toArray s 0 0 (fun _ => False)) (F0 m 4 ls []) := by
    intro fuel
    induction fuel with
    | zero => intro a han hm; exact absurd hm (Nat.not_lt_zero _)
    | succ fuel ih4 =>
      intro a han hm4 ls hl
      have hc0 := cntB_le (mkB (hsM N) N) a
      refine lv_iload_n hx hb dX2_marksUpTo_4 rfl (lv_at hl 0 rfl) ?_
      refine lv_iload_n hx hb dX2_marksUpTo_5 rfl (lv_at hl 3 rfl) ?_
      refine ri_icmp_ge (tgt := 43) hx hb (by unfold inR; omega) (by unfold inR; omega) dX2_marksUpTo_6 (by decide) (fun h1 => ?_) (fun h1 => ?_)
      · skip
        refine lv_iload_n hx hb dX2_marksUpTo_43 rfl (lv_at hl 1 rfl) ?_
        exact W.iret hx hb hr (fun t ht hWm => ⟨congrArg (fun z => Outcome.returned (some (Value.int (iI z)))) (by rw [show a = n by omega]), ht⟩) (fun _ h => absurd h List.not_mem_nil) dX2_marksUpTo_44
      · skip
        refine lv_iload_n hx hb dX2_marksUpTo_9 rfl (lv_at hl 1 rfl) ?_
        refine lv_aload_n hx hb dX2_marksUpTo_10 rfl (lv_at hl 2 rfl) ?_
        refine m_get hx hb hts hown hK hW 23 (by decide) q997 rfl (v := .ref (ad 23)) rfl dX2_marksUpTo_11 ?_
        refine lv_iconst (v := iI (2)) hx hb dX2_marksUpTo_14 rfl ?_
        refine lv_iload_n hx hb dX2_marksUpTo_15 rfl (lv_at hl 0 rfl) ?_
        refine ri_imul hx hb dX2_marksUpTo_16 ?_
        refine h_zald hx hb hK hW.a23 (2 * a) (by omega) (by omega) (by decide) dX2_marksUpTo_17 ?_
        have b2 : N 23 (2 * a) ≤ 1 := hN 23 (2 * a)
        refine ri_if_eq (tgt := 34) hx hb (by unfold inR; omega) dX2_marksUpTo_18 (by decide) (fun h3 => ?_) (fun h3 => ?_)
        · skip
          refine lv_iconst (v := iI (0)) hx hb dX2_marksUpTo_34 rfl ?_
          refine ri_iadd hx hb dX2_marksUpTo_35 ?_
          refine ri_top (b := (cntB (mkB (hsM N) N) (a + 1) : Nat)) (cnt_0 (mk_no (by first | exact Or.inr (by omega) | exact Or.inl (by unfold hsM; exact decide_eq_false (by omega))))) ?_
          refine lv_istore_n (lv' := [(2, .int (iI ((cntB (mkB (hsM N) N) (a + 1) : Nat)))), (3, .int (iI (a))), (0, .ref o), (1, .int (iI (n)))]) hx hb dX2_marksUpTo_36 rfl hl (by decide) rfl (fun ls hl => ?_)
          refine lv_iinc (v := iI ((a + 1 : Nat))) (lv' := [(3, .int (iI ((a + 1 : Nat)))), (2, .int (iI ((cntB (mkB (hsM N) N) (a + 1) : Nat)))), (0, .ref o), (1, .int (iI (n)))]) hx hb dX2_marksUpTo_37 hl (k := 1) rfl (iI_succ _) (by decide) rfl (fun ls hl => ?_)
          refine lv_goto (tgt := 4) hx hb dX2_marksUpTo_40 (by decide) ?_
          exact ih4 (a + 1) (by omega) (by omega) _ (lv_sub hl [0, 1, 2, 3] rfl)
        · skip
          refine lv_aload_n hx hb dX2_marksUpTo_21 rfl (lv_at hl 2 rfl) ?_
          refine lv_iload_n hx hb dX2_marksUpTo_22 rfl (lv_at hl 0 rfl) ?_
          refine rc_V (W.runV (As := [.int (iI (a))]) (rest := [.int (iI (cntB (mkB (hsM N) N) a))]) ⟨hx, hb, hml, hown, hts⟩ (mm_firstLike l D cA A o ad F G N X Z K hKb hF hG hN hX hZ a (by omega) (by omega)) (cwV 1 hts (lw_V q1242 q1244 qs38 q62 q1245) rfl rfl rfl (by decide +kernel) ⟨Nat.le_of_ble_eq_true rfl, Nat.le_of_ble_eq_true rfl⟩) (preV hK hW.1 rfl hW) rfl rfl hl.1 rfl (lv_room (Nat.le_of_ble_eq_true rfl)) dX2_marksUpTo_23 ⟨Nat.le_of_ble_eq_true rfl, Nat.le_of_ble_eq_true rfl⟩) ?_
          have b4 : flB (hsM N) N a ≤ a := flB_le _ _ _
          refine lv_iload_n hx hb dX2_marksUpTo_26 rfl (lv_at hl 0 rfl) ?_
          refine ri_icmp_ne (tgt := 34) hx hb (by unfold inR; omega) (by unfold inR; omega) dX2_marksUpTo_27 (by decide) (fun h5 => ?_) (fun h5 => ?_)
          · skip
            refine lv_iconst (v := iI (0)) hx hb dX2_marksUpTo_34 rfl ?_
            refine ri_iadd hx hb dX2_marksUpTo_35 ?_
            refine ri_top (b := (cntB (mkB (hsM N) N) (a + 1) : Nat)) (cnt_0 (mk_no (by first | exact Or.inr (by omega) | exact Or.inl (by unfold hsM; exact decide_eq_false (by omega))))) ?_
            refine lv_istore_n (lv' := [(2, .int (iI ((cntB (mkB (hsM N) N) (a + 1) : Nat)))), (3, .int (iI (a))), (0, .ref o), (1, .int (iI (n)))]) hx hb dX2_marksUpTo_36 rfl hl (by decide) rfl (fun ls hl => ?_)
            refine lv_iinc (v := iI ((a + 1 : Nat))) (lv' := [(3, .int (iI ((a + 1 : Nat)))), (2, .int (iI ((cntB (mkB (hsM N) N) (a + 1) : Nat)))), (0, .ref o), (1, .int (iI (n)))]) hx hb dX2_marksUpTo_37 hl (k := 1) rfl (iI_succ _) (by decide) rfl (fun ls hl => ?_)
            refine lv_goto (tgt := 4) hx hb dX2_marksUpTo_40 (by decide) ?_
            exact ih4 (a + 1) (by omega) (by omega) _ (lv_sub hl [0, 1, 2, 3] rfl)
          · skip
            refine lv_iconst (v := iI (1)) hx hb dX2_marksUpTo_30 rfl ?_
            refine lv_goto (tgt := 35) hx hb dX2_marksUpTo_31 (by decide) ?_
            refine ri_iadd hx hb dX2_marksUpTo_35 ?_
            refine ri_top (b := (cntB (mkB (hsM N) N) (a + 1) : Nat)) (cnt_1 (mk_yes (by unfold hsM; exact decide_eq_true (by omega)) (by omega))) ?_
            refine lv_istore_n (lv' := [(2, .int (iI ((cntB (mkB (hsM N) N) (a + 1) : Nat)))), (3, .int (iI (a))), (0, .ref o), (1, .int (iI (n)))]) hx hb dX2_marksUpTo_36 rfl hl (by decide) rfl (fun ls hl => ?_)
            refine lv_iinc (v := iI ((a + 1 : Nat))) (lv' := [(3, .int (iI ((a + 1 : Nat)))), (2, .int (iI ((cntB (mkB (hsM N) N) (a + 1) : Nat)))), (0, .ref o), (1, .int (iI (n)))]) hx hb dX2_marksUpTo_37 hl (k := 1) rfl (iI_succ _) (by decide) rfl (fun ls hl => ?_)
            refine lv_goto (tgt := 4) hx hb dX2_marksUpTo_40 (by decide) ?_
            exact ih4 (a + 1) (by omega) (by omega) _ (lv_sub hl [0, 1, 2, 3] rfl)
  exact lp4 _ (0) (by omega) (Nat.lt_succ_self _) _ (lv_sub hl [0, 1, 2, 3] rfl)

set_option maxHeartbeats 4000000 in
set_option maxRecDepth 100000 in
theorem mm_mark (l : Launch) (D : va_G) (cA : Nat → ClassId) (A : Nat → Prop) (o : Nat) (ad : Nat → Nat) (F G : Nat → Nat) (N X : Nat → Nat → Nat) (Z : Nat → Int) (K : Nat) (hKb : K ≤ 1000000) (hF : FB F) (hG : GB G) (hN : NB N) (hX : XB X) (hZ : ZB K Z) (b : Nat) (hb4 : b < F 4) : Met l yX2_mark (ws_ yX2_mark cX2_mark 2 (some .int)) ({ frames := 5, cells := 0, slots := 0, locals := 122 }) (Pk D cA [.ref o, .int (iI (b))] (MW D cA A o ad F G N X Z)) (Qi (fun z H' => z = (if N 23 (2 * b) = 0 then -1 else (cntB (mkB (hsM N) N) (flB (hsM N) N b) : Int)) ∧ MW D cA A o ad (va_up F 0 0) G N X Z H') A) 0 0 (A) := by
  refine Met.ofW (cc := cX2_mark) (maxL := 2) (ret := (some .int)) (by decide) rfl ?_
  intro p e s m args below meth c s₁ B hml hv
  obtain ⟨rfl, hK, hW⟩ := hv
  have hx := B.exec
  have hb := B.bytes
  have hr := B.returns
  have hts := atoms_spec (ws := ws_ yX2_mark cX2_mark 2 (some .int)) B.pre
  have hts : ∀ w ∈ lw_all, w.before _ s = true := fun w h => hts w (List.mem_cons_of_mem _ h)
  have hown : s.vm.findClass RX2 = some m.cls := findClass_of_methodNamed B.named
  have hlocks := B.notSynchronized
  have hl := lv_entry ([.ref o, .int (iI (b))]) (n := 2) (Nat.le_of_ble_eq_true rfl)
  rw [lg_entry_eq]
  generalize (lg_sl ([.ref o, .int (iI (b))]) ++ List.replicate (2 - (lg_sl ([.ref o, .int (iI (b))])).length) Slot.unset).toArray = ls at hl ⊢
  have hl : lv_has ls 2 [(0, .ref o), (1, .int (iI (b)))] := hl
  have hS : va_S A s.heap s.heap [] := va_S.rf
  have hF4 : F 4 ≤ 60 := hF 4
  refine lv_aload_n hx hb dX2_mark_0 rfl (lv_at hl 0 rfl) ?_
  refine lv_iconst (v := iI (0)) hx hb dX2_mark_1 rfl ?_
  refine m_put hx hb hts hown hK hW hS 0 (by decide) q974 rfl rfl rfl (0) rfl dX2_mark_2 (fun H locs hW hS => ?_)
  have hF : FB (va_up (F) 0 (0)) := hF.up (by show 0 ≤ 2; omega)
  have e1 : va_up F 0 0 1 = F 1 := rfl
  have e2 : va_up F 0 0 2 = F 2 := rfl
  have e3 : va_up F 0 0 3 = F 3 := rfl
  have e4 : va_up F 0 0 4 = F 4 := rfl
  have e5 : va_up F 0 0 5 = F 5 := rfl
  refine lv_aload_n hx hb dX2_mark_5 rfl (lv_at hl 0 rfl) ?_
  refine lv_iload_n hx hb dX2_mark_6 rfl (lv_at hl 1 rfl) ?_
  refine rc_V (W.runV (As := [.int (iI (b))]) (rest := []) ⟨hx, hb, hml, hown, hts⟩ (mm_isBox l D cA A o ad (va_up (F) 0 (0)) G N X Z K hKb hF hG hN hX hZ b (by unfold inR; omega)) (cwV 1 hts (lw_V q1206 q1208 qs34 q62 q1209) rfl rfl rfl (by decide +kernel) ⟨Nat.le_of_ble_eq_true rfl, Nat.le_of_ble_eq_true rfl⟩) (preV hK hW.1 rfl hW) rfl rfl hl.1 rfl (lv_room (Nat.le_of_ble_eq_true rfl)) dX2_mark_7 ⟨Nat.le_of_ble_eq_true rfl, Nat.le_of_ble_eq_true rfl⟩) ?_
  rw [if_pos (show 0 ≤ (b : Int) ∧ (b : Int) < ((va_up (F) 0 (0)) 4 : Nat) from by omega)]
  refine ri_if_ne (tgt := 18) hx hb (by unfold inR; omega) dX2_mark_10 (by decide) (fun h2 => ?_) (fun h2 => ?_)
  · skip
    refine lv_aload_n hx hb dX2_mark_18 rfl (lv_at hl 0 rfl) ?_
    refine m_get hx hb hts hown hK hW 23 (by decide) q997 rfl (v := .ref (ad 23)) rfl dX2_mark_19 ?_
    refine lv_iconst (v := iI (2)) hx hb dX2_mark_22 rfl ?_
    refine lv_iload_n hx hb dX2_mark_23 rfl (lv_at hl 1 rfl) ?_
    refine ri_imul hx hb dX2_mark_24 ?_
    refine h_zald hx hb hK hW.a23 (2 * b) (by omega) (by omega) (by decide) dX2_mark_25 ?_
    have b3 : N 23 (2 * b) ≤ 1 := hN 23 (2 * b)
    refine ri_if_eq (tgt := 41) hx hb (by unfold inR; omega) dX2_mark_26 (by decide) (fun h4 => ?_) (fun h4 => ?_)
    · skip
      refine lv_iconst (v := iI (-1)) hx hb dX2_mark_41 rfl ?_
      exact W.iret hx hb hr (fun t ht hWm => ⟨⟨_, rfl, by rw [ht]; exact ⟨by split <;> first | omega | rfl, hW⟩⟩, hS.F ht⟩) hS.2.2 dX2_mark_42
    · skip
      refine lv_aload_n hx hb dX2_mark_29 rfl (lv_at hl 0 rfl) ?_
      refine lv_aload_n hx hb dX2_mark_30 rfl (lv_at hl 0 rfl) ?_
      refine lv_iload_n hx hb dX2_mark_31 rfl (lv_at hl 1 rfl) ?_
      refine rc_V (W.runV (As := [.int (iI (b))]) (rest := [.ref o]) ⟨hx, hb, hml, hown, hts⟩ (mm_firstLike l D cA A o ad (va_up (F) 0 (0)) G N X Z K hKb hF hG hN hX hZ b (by omega) (by omega)) (cwV 1 hts (lw_V q1242 q1244 qs38 q62 q1245) rfl rfl rfl (by decide +kernel) ⟨Nat.le_of_ble_eq_true rfl, Nat.le_of_ble_eq_true rfl⟩) (preV hK hW.1 rfl hW) rfl rfl hl.1 rfl (lv_room (Nat.le_of_ble_eq_true rfl)) dX2_mark_32 ⟨Nat.le_of_ble_eq_true rfl, Nat.le_of_ble_eq_true rfl⟩) ?_
      have b5 : flB (hsM N) N b ≤ b := flB_le _ _ _
      refine rc_V (W.runV (As := [.int (iI ((flB (hsM N) N b : Nat)))]) (rest := []) ⟨hx, hb, hml, hown, hts⟩ (mm_marksUpTo l D cA A o ad (va_up (F) 0 (0)) G N X Z K hKb hF hG hN hX hZ (flB (hsM N) N b) (by omega)) (cwV 1 hts (lw_V q1250 q1252 qs40 q62 q1253) rfl rfl rfl (by decide +kernel) ⟨Nat.le_of_ble_eq_true rfl, Nat.le_of_ble_eq_true rfl⟩) (preV hK hW.1 rfl hW) rfl rfl hl.1 rfl (lv_room (Nat.le_of_ble_eq_true rfl)) dX2_mark_35 ⟨Nat.le_of_ble_eq_true rfl, Nat.le_of_ble_eq_true rfl⟩) ?_
      have b6 : cntB (mkB (hsM N) N) (flB (hsM N) N b) ≤ (flB (hsM N) N b) := cntB_le _ _
      refine lv_goto (tgt := 42) hx hb dX2_mark_38 (by decide) ?_
      exact W.iret hx hb hr (fun t ht hWm => ⟨⟨_, rfl, by rw [ht]; exact ⟨by split <;> first | omega | rfl, hW⟩⟩, hS.F ht⟩) hS.2.2 dX2_mark_42
  · skip
    exfalso; omega

set_option maxHeartbeats 4000000 in
set_option maxRecDepth 100000 in
theorem mm_mark_x (l : Launch) (D : va_G) (cA : Nat → ClassId) (A : Nat → Prop) (o : Nat) (ad : Nat → Nat) (F G : Nat → Nat) (N X : Nat → Nat → Nat) (Z : Nat → Int) (K : Nat) (hKb : K ≤ 1000000) (hF : FB F) (hG : GB G) (hN : NB N) (hX : XB X) (hZ : ZB K Z) (b : Int) (q_b : inR b) (hbad : ¬ ∃ a : Nat, b = a ∧ a < F 4) : Met l yX2_mark (ws_ yX2_mark cX2_mark 2 (some .int)) ({ frames := 2, cells := 0, slots := 0, locals := 51 }) (Pk D cA [.ref o, .int (iI (b))] (MW D cA A o ad F G N X Z)) (Qi (fun z H' => MW D cA A o ad (va_up (va_up F 0 0) 0 1) G N X Z H') A) 0 0 (A) := by
  refine Met.ofW (cc := cX2_mark) (maxL := 2) (ret := (some .int)) (by decide) rfl ?_
  intro p e s m args below meth c s₁ B hml hv
  obtain ⟨rfl, hK, hW⟩ := hv
  have hx := B.exec
  have hb := B.bytes
  have hr := B.returns
  have hts := atoms_spec (ws := ws_ yX2_mark cX2_mark 2 (some .int)) B.pre
  have hts : ∀ w ∈ lw_all, w.before _ s = true := fun w h => hts w (List.mem_cons_of_mem _ h)
  have hown : s.vm.findClass RX2 = some m.cls := findClass_of_methodNamed B.named
  have hlocks := B.notSynchronized
  have hl := lv_entry ([.ref o, .int (iI (b))]) (n := 2) (Nat.le_of_ble_eq_true rfl)
  rw [lg_entry_eq]
  generalize (lg_sl ([.ref o, .int (iI (b))]) ++ List.replicate (2 - (lg_sl ([.ref o, .int (iI (b))])).length) Slot.unset).toArray = ls at hl ⊢
  have hl : lv_has ls 2 [(0, .ref o), (1, .int (iI (b)))] := hl
  have hS : va_S A s.heap s.heap [] := va_S.rf
  have q_b1 := q_b
  unfold inR at q_b1
  have hF4 : F 4 ≤ 60 := hF 4
  refine lv_aload_n hx hb dX2_mark_0 rfl (lv_at hl 0 rfl) ?_
  refine lv_iconst (v := iI (0)) hx hb dX2_mark_1 rfl ?_
  refine m_put hx hb hts hown hK hW hS 0 (by decide) q974 rfl rfl rfl (0) rfl dX2_mark_2 (fun H locs hW hS => ?_)
  have hF : FB (va_up (F) 0 (0)) := hF.up (by show 0 ≤ 2; omega)
  have e1 : va_up F 0 0 1 = F 1 := rfl
  have e2 : va_up F 0 0 2 = F 2 := rfl
  have e3 : va_up F 0 0 3 = F 3 := rfl
  have e4 : va_up F 0 0 4 = F 4 := rfl
  have e5 : va_up F 0 0 5 = F 5 := rfl
  refine lv_aload_n hx hb dX2_mark_5 rfl (lv_at hl 0 rfl) ?_
  refine lv_iload_n hx hb dX2_mark_6 rfl (lv_at hl 1 rfl) ?_
  refine rc_V (W.runV (As := [.int (iI (b))]) (rest := []) ⟨hx, hb, hml, hown, hts⟩ (mm_isBox l D cA A o ad (va_up (F) 0 (0)) G N X Z K hKb hF hG hN hX hZ b (by unfold inR; omega)) (cwV 1 hts (lw_V q1206 q1208 qs34 q62 q1209) rfl rfl rfl (by decide +kernel) ⟨Nat.le_of_ble_eq_true rfl, Nat.le_of_ble_eq_true rfl⟩) (preV hK hW.1 rfl hW) rfl rfl hl.1 rfl (lv_room (Nat.le_of_ble_eq_true rfl)) dX2_mark_7 ⟨Nat.le_of_ble_eq_true rfl, Nat.le_of_ble_eq_true rfl⟩) ?_
  rw [if_neg (show ¬ (0 ≤ (b : Int) ∧ (b : Int) < ((va_up (F) 0 (0)) 4 : Nat)) from fun q => hbad ⟨b.toNat, by omega, by omega⟩)]
  refine ri_if_ne (tgt := 18) hx hb (by unfold inR; omega) dX2_mark_10 (by decide) (fun h2 => ?_) (fun h2 => ?_)
  · skip
    exfalso; omega
  · skip
    refine lv_aload_n hx hb dX2_mark_13 rfl (lv_at hl 0 rfl) ?_
    refine rc_I (W.runV (As := []) (rest := []) ⟨hx, hb, hml, hown, hts⟩ (mm_fail l D cA A o ad (va_up (F) 0 (0)) G N X Z K hKb hF hG hN hX hZ  ) (cwV 0 hts (lw_V q1110 q1112 qs17 q62 q1113) rfl rfl rfl (by decide +kernel) ⟨Nat.le_of_ble_eq_true rfl, Nat.le_of_ble_eq_true rfl⟩) (preV hK hW.1 rfl hW) rfl rfl hl.1 rfl (lv_room (Nat.le_of_ble_eq_true rfl)) dX2_mark_14 ⟨Nat.le_of_ble_eq_true rfl, Nat.le_of_ble_eq_true rfl⟩) hS (fun _ _ h => h) (fun _ h => h) (fun z H locs hq hS hz hk => ?_)
    obtain ⟨rfl, hW⟩ := hq
    exact W.iret hx hb hr (fun t ht hWm => ⟨⟨_, rfl, by rw [ht]; exact hW⟩, hS.F ht⟩) hS.2.2 dX2_mark_17

set_option maxHeartbeats 4000000 in
set_option maxRecDepth 100000 in
theorem mm_where (l : Launch) (D : va_G) (cA : Nat → ClassId) (A : Nat → Prop) (o : Nat) (ad : Nat → Nat) (F G : Nat → Nat) (N X : Nat → Nat → Nat) (Z : Nat → Int) (K : Nat) (hKb : K ≤ 1000000) (hF : FB F) (hG : GB G) (hN : NB N) (hX : XB X) (hZ : ZB K Z) (b : Nat) (hb4 : b < F 4) : Met l yX2_where (ws_ yX2_where cX2_where 5 (some .int)) ({ frames := 5, cells := 0, slots := 0, locals := 117 }) (Pk D cA [.ref o, .int (iI (b))] (MW D cA A o ad F G N X Z)) (Qi (fun z H' => z = whM F N b ∧ MW D cA A o ad (va_up F 0 0) G N X Z H') A) 0 0 (A) := by
  refine Met.ofW (cc := cX2_where) (maxL := 5) (ret := (some .int)) (by decide) rfl ?_
  intro p e s m args below meth c s₁ B hml hv
  obtain ⟨rfl, hK, hW⟩ := hv
  have hx := B.exec
  have hb := B.bytes
  have hr := B.returns
  have hts := atoms_spec (ws := ws_ yX2_where cX2_where 5 (some .int)) B.pre
  have hts : ∀ w ∈ lw_all, w.before _ s = true := fun w h => hts w (List.mem_cons_of_mem _ h)
  have hown : s.vm.findClass RX2 = some m.cls := findClass_of_methodNamed B.named
  have hlocks := B.notSynchronized
  have hl := lv_entry ([.ref o, .int (iI (b))]) (n := 5) (Nat.le_of_ble_eq_true rfl)
  rw [lg_entry_eq]
  generalize (lg_sl ([.ref o, .int (iI (b))]) ++ List.replicate (5 - (lg_sl ([.ref o, .int (iI (b))])).length) Slot.unset).toArray = ls at hl ⊢
  have hl : lv_has ls 5 [(0, .ref o), (1, .int (iI (b)))] := hl
  have hS : va_S A s.heap s.heap [] := va_S.rf
  have hF4 : F 4 ≤ 60 := hF 4
  have hw120 := wayN_lt hN (b := b) (by omega)
  refine lv_aload_n hx hb dX2_where_0 rfl (lv_at hl 0 rfl) ?_
  refine lv_iconst (v := iI (0)) hx hb dX2_where_1 rfl ?_
  refine m_put hx hb hts hown hK hW hS 0 (by decide) q974 rfl rfl rfl (0) rfl dX2_where_2 (fun H locs hW hS => ?_)
  have hF : FB (va_up (F) 0 (0)) := hF.up (by show 0 ≤ 2; omega)
  have e1 : va_up F 0 0 1 = F 1 := rfl
  have e2 : va_up F 0 0 2 = F 2 := rfl
  have e3 : va_up F 0 0 3 = F 3 := rfl
  have e4 : va_up F 0 0 4 = F 4 := rfl
  have e5 : va_up F 0 0 5 = F 5 := rfl
  refine lv_aload_n hx hb dX2_where_5 rfl (lv_at hl 0 rfl) ?_
  refine lv_iload_n hx hb dX2_where_6 rfl (lv_at hl 1 rfl) ?_
  refine rc_V (W.runV (As := [.int (iI (b))]) (rest := []) ⟨hx, hb, hml, hown, hts⟩ (mm_isBox l D cA A o ad (va_up (F) 0 (0)) G N X Z K hKb hF hG hN hX hZ b (by unfold inR; omega)) (cwV 1 hts (lw_V q1206 q1208 qs34 q62 q1209) rfl rfl rfl (by decide +kernel) ⟨Nat.le_of_ble_eq_true rfl, Nat.le_of_ble_eq_true rfl⟩) (preV hK hW.1 rfl hW) rfl rfl hl.1 rfl (lv_room (Nat.le_of_ble_eq_true rfl)) dX2_where_7 ⟨Nat.le_of_ble_eq_true rfl, Nat.le_of_ble_eq_true rfl⟩) ?_
  rw [if_pos (show 0 ≤ (b : Int) ∧ (b : Int) < ((va_up (F) 0 (0)) 4 : Nat) from by omega)]
  refine ri_if_ne (tgt := 18) hx hb (by unfold inR; omega) dX2_where_10 (by decide) (fun h2 => ?_) (fun h2 => ?_)
  · skip
    refine lv_aload_n hx hb dX2_where_18 rfl (lv_at hl 0 rfl) ?_
    refine lv_iload_n hx hb dX2_where_19 rfl (lv_at hl 1 rfl) ?_
    refine rc_V (W.runV (As := [.int (iI (b))]) (rest := []) ⟨hx, hb, hml, hown, hts⟩ (mm_isGone l D cA A o ad (va_up (F) 0 (0)) G N X Z K hKb hF hG hN hX hZ b (by omega)) (cwV 1 hts (lw_V q1218 q1220 qs36 q62 q1221) rfl rfl rfl (by decide +kernel) ⟨Nat.le_of_ble_eq_true rfl, Nat.le_of_ble_eq_true rfl⟩) (preV hK hW.1 rfl hW) rfl rfl hl.1 rfl (lv_room (Nat.le_of_ble_eq_true rfl)) dX2_where_20 ⟨Nat.le_of_ble_eq_true rfl, Nat.le_of_ble_eq_true rfl⟩) ?_
    by_cases h3 : rdN N b ≤ (va_up (F) 0 (0)) 1 ∧ N 22 (wayN N b) ≠ 0
    · rw [if_pos h3]
      have hgo : rdN N b ≤ F 1 ∧ N 22 (wayN N b) ≠ 0 := by omega
      refine ri_if_ne (tgt := 28) hx hb (by unfold inR; omega) dX2_where_23 (by decide) (fun h4 => ?_) (fun h4 => ?_)
      · skip
        refine lv_aload_n hx hb dX2_where_28 rfl (lv_at hl 0 rfl) ?_
        refine lv_iload_n hx hb dX2_where_29 rfl (lv_at hl 1 rfl) ?_
        refine rc_V (W.runV (As := [.int (iI (b))]) (rest := []) ⟨hx, hb, hml, hown, hts⟩ (mm_wayOf l D cA A o ad (va_up (F) 0 (0)) G N X Z K hKb hF hG hN hX hZ b (by omega)) (cwV 1 hts (lw_V q1125 q1127 qs18 q62 q1128) rfl rfl rfl (by decide +kernel) ⟨Nat.le_of_ble_eq_true rfl, Nat.le_of_ble_eq_true rfl⟩) (preV hK hW.1 rfl hW) rfl rfl hl.1 rfl (lv_room (Nat.le_of_ble_eq_true rfl)) dX2_where_30 ⟨Nat.le_of_ble_eq_true rfl, Nat.le_of_ble_eq_true rfl⟩) ?_
        have b5 : wayN N b < 120 := wayN_lt hN (by omega)
        refine lv_istore_n (lv' := [(2, .int (iI (wayN N b))), (0, .ref o), (1, .int (iI (b)))]) hx hb dX2_where_33 rfl hl (by decide) rfl (fun ls hl => ?_)
        refine lv_iconst (v := iI (0)) hx hb dX2_where_34 rfl ?_
        refine lv_istore_n (lv' := [(3, .int (iI (0))), (2, .int (iI (wayN N b))), (0, .ref o), (1, .int (iI (b)))]) hx hb dX2_where_35 rfl hl (by decide) rfl (fun ls hl => ?_)
        have lp36 : ∀ (fuel : Nat) (i : Nat) (hi : i ≤ N 24 (wayN N b)) (hw : whM F N b = wlp (F 1) (onM N (wayN N b)) (ofM N (wayN N b)) (if N 23 (wayN N b) = 0 ∨ F 1 < thrN N (wayN N b) b then 1 else if (F 1 : Int) < arrN N b then 3 else 4) (N 24 (wayN N b) - i) i), N 24 (wayN N b) - i < fuel → ∀ (H : Heap) (locs : List Loc) (ls : Array Slot), MW D cA A o ad (va_up (F) 0 (0)) G N X Z H → va_S A s.heap H locs → lv_has ls 5 [(3, .int (iI (i))), (2, .int (iI (wayN N b))), (0, .ref o), (1, .int (iI (b)))] → W p l e (headSpec (ws_ yX2_where cX2_where 5 (some .int)) ({ frames := 5, cells := 0, slots := 0, locals := 117 })).room s m ([.ref o, .int (iI (b))] : List Value).toArray below meth c H locs 0 0 (MQ below (Qi (fun z H' => z = whM F N b ∧ MW D cA A o ad (va_up F 0 0) G N X Z H') A) ([.ref o, .int (iI (b))] : List Value).toArray s 0 0 (A)) (F0 m 36 ls []) := by
          intro fuel
          induction fuel with
          | zero => intro i hi hw hm; exact absurd hm (Nat.not_lt_zero _)
          | succ fuel ih36 =>
            intro i hi hw hm36 H locs ls hW hS hl
            have hm3 : N 24 (wayN N b) ≤ 3 := hN 24 _
            refine lv_iload_n hx hb dX2_where_36 rfl (lv_at hl 0 rfl) ?_
            refine lv_aload_n hx hb dX2_where_37 rfl (lv_at hl 2 rfl) ?_
            refine m_get hx hb hts hown hK hW 24 (by decide) q998 rfl (v := .ref (ad 24)) rfl dX2_where_38 ?_
            refine lv_iload_n hx hb dX2_where_41 rfl (lv_at hl 1 rfl) ?_
            refine h_iald hx hb hK hW.a24 (wayN N b) (by omega) (by omega) (by decide) dX2_where_42 ?_
            have b6 : N 24 (wayN N b) ≤ 3 := hN 24 (wayN N b)
            refine ri_icmp_ge (tgt := 121) hx hb (by unfold inR; omega) (by unfold inR; omega) dX2_where_43 (by decide) (fun h7 => ?_) (fun h7 => ?_)
            · skip
              refine lv_aload_n hx hb dX2_where_121 rfl (lv_at hl 2 rfl) ?_
              refine m_get hx hb hts hown hK hW 23 (by decide) q997 rfl (v := .ref (ad 23)) rfl dX2_where_122 ?_
              refine lv_iload_n hx hb dX2_where_125 rfl (lv_at hl 1 rfl) ?_
              refine h_zald hx hb hK hW.a23 (wayN N b) (by omega) (by omega) (by decide) dX2_where_126 ?_
              have b8 : N 23 (wayN N b) ≤ 1 := hN 23 (wayN N b)
              refine ri_if_eq (tgt := 143) hx hb (by unfold inR; omega) dX2_where_127 (by decide) (fun h9 => ?_) (fun h9 => ?_)
              · skip
                refine lv_iconst (v := iI (1)) hx hb dX2_where_143 rfl ?_
                refine lv_goto (tgt := 164) hx hb dX2_where_144 (by decide) ?_
                exact W.iret hx hb hr (fun t ht hWm => ⟨⟨_, rfl, by rw [ht]; exact ⟨by rw [hw, show N 24 (wayN N b) - i = 0 by omega, wlp]; (repeat' split) <;> omega, hW⟩⟩, hS.F ht⟩) hS.2.2 dX2_where_164
              · skip
                refine lv_aload_n hx hb dX2_where_130 rfl (lv_at hl 2 rfl) ?_
                refine m_get hx hb hts hown hK hW 1 (by decide) q975 rfl (v := .int (iI (F 1))) rfl dX2_where_131 ?_
                have b10 : F 1 ≤ 1439 := hF 1
                refine lv_aload_n hx hb dX2_where_134 rfl (lv_at hl 2 rfl) ?_
                refine lv_iload_n hx hb dX2_where_135 rfl (lv_at hl 1 rfl) ?_
                refine lv_iload_n hx hb dX2_where_136 rfl (lv_at hl 3 rfl) ?_
                refine rc_V (W.runV (As := [.int (iI ((wayN N b : Nat))), .int (iI (b))]) (rest := [.int (iI (F 1))]) ⟨hx, hb, hml, hown, hts⟩ (mm_there l D cA A o ad (va_up (F) 0 (0)) G N X Z K hKb hF hG hN hX hZ (wayN N b) b (by omega) (by omega)) (cwV 2 hts (lw_V q1194 q1196 qs32 q62 q1197) rfl rfl rfl (by decide +kernel) ⟨Nat.le_of_ble_eq_true rfl, Nat.le_of_ble_eq_true rfl⟩) (preV hK hW.1 rfl hW) rfl rfl hl.1 rfl (lv_room (Nat.le_of_ble_eq_true rfl)) dX2_where_137 ⟨Nat.le_of_ble_eq_true rfl, Nat.le_of_ble_eq_true rfl⟩) ?_
                have b11 : thrN N (wayN N b) b ≤ 1619 := thrN_le hN _ _
                refine ri_icmp_ge (tgt := 147) hx hb (by unfold inR; omega) (by unfold inR; omega) dX2_where_140 (by decide) (fun h12 => ?_) (fun h12 => ?_)
                · skip
                  refine lv_aload_n hx hb dX2_where_147 rfl (lv_at hl 2 rfl) ?_
                  refine m_get hx hb hts hown hK hW 1 (by decide) q975 rfl (v := .int (iI (F 1))) rfl dX2_where_148 ?_
                  refine lv_aload_n hx hb dX2_where_151 rfl (lv_at hl 2 rfl) ?_
                  refine lv_iload_n hx hb dX2_where_152 rfl (lv_at hl 3 rfl) ?_
                  refine rc_V (W.runV (As := [.int (iI (b))]) (rest := [.int (iI (F 1))]) ⟨hx, hb, hml, hown, hts⟩ (mm_arrives l D cA A o ad (va_up (F) 0 (0)) G N X Z K hKb hF hG hN hX hZ b (by omega)) (cwV 1 hts (lw_V q1210 q1212 qs35 q62 q1213) rfl rfl rfl (by decide +kernel) ⟨Nat.le_of_ble_eq_true rfl, Nat.le_of_ble_eq_true rfl⟩) (preV hK hW.1 rfl hW) rfl rfl hl.1 rfl (lv_room (Nat.le_of_ble_eq_true rfl)) dX2_where_153 ⟨Nat.le_of_ble_eq_true rfl, Nat.le_of_ble_eq_true rfl⟩) ?_
                  have b13 : -1 ≤ arrN N b ∧ arrN N b ≤ 1739 := arrN_le hN _
                  refine ri_icmp_ge (tgt := 163) hx hb (by unfold inR; omega) (by unfold inR; omega) dX2_where_156 (by decide) (fun h14 => ?_) (fun h14 => ?_)
                  · skip
                    refine lv_iconst (v := iI (4)) hx hb dX2_where_163 rfl ?_
                    exact W.iret hx hb hr (fun t ht hWm => ⟨⟨_, rfl, by rw [ht]; exact ⟨by rw [hw, show N 24 (wayN N b) - i = 0 by omega, wlp]; (repeat' split) <;> omega, hW⟩⟩, hS.F ht⟩) hS.2.2 dX2_where_164
                  · skip
                    refine lv_iconst (v := iI (3)) hx hb dX2_where_159 rfl ?_
                    refine lv_goto (tgt := 164) hx hb dX2_where_160 (by decide) ?_
                    exact W.iret hx hb hr (fun t ht hWm => ⟨⟨_, rfl, by rw [ht]; exact ⟨by rw [hw, show N 24 (wayN N b) - i = 0 by omega, wlp]; (repeat' split) <;> omega, hW⟩⟩, hS.F ht⟩) hS.2.2 dX2_where_164
                · skip
                  refine lv_iconst (v := iI (1)) hx hb dX2_where_143 rfl ?_
                  refine lv_goto (tgt := 164) hx hb dX2_where_144 (by decide) ?_
                  exact W.iret hx hb hr (fun t ht hWm => ⟨⟨_, rfl, by rw [ht]; exact ⟨by rw [hw, show N 24 (wayN N b) - i = 0 by omega, wlp]; (repeat' split) <;> omega, hW⟩⟩, hS.F ht⟩) hS.2.2 dX2_where_164
            · skip
              refine lv_iload_n hx hb dX2_where_46 rfl (lv_at hl 1 rfl) ?_
              refine lv_iload_n hx hb dX2_where_47 rfl (lv_at hl 0 rfl) ?_
              refine rc_V (W.runS (As := [.int (iI (wayN N b)), .int (iI (i))]) (rest := []) ⟨hx, hb, hml, hown, hts⟩ (mm_legAt l D cA (wayN N b) i ) (va_cwS 2 hts (lw_S q1163 q1164 q62 q1165) rfl rfl rfl (by decide +kernel) ⟨Nat.le_of_ble_eq_true rfl, Nat.le_of_ble_eq_true rfl⟩) (preS hK (B := fun _ => True) trivial) rfl rfl hl.1 rfl (lv_room (Nat.le_of_ble_eq_true rfl)) dX2_where_48 ⟨Nat.le_of_ble_eq_true rfl, Nat.le_of_ble_eq_true rfl⟩) ?_
              refine ri_top (b := (3 * wayN N b + i : Nat)) (by omega) ?_
              refine lv_istore (lv' := [(4, .int (iI ((3 * wayN N b + i : Nat)))), (3, .int (iI (i))), (2, .int (iI (wayN N b))), (0, .ref o), (1, .int (iI (b)))]) hx hb dX2_where_51 hl (by decide) rfl (fun ls hl => ?_)
              refine lv_aload_n hx hb dX2_where_53 rfl (lv_at hl 3 rfl) ?_
              refine m_get hx hb hts hown hK hW 1 (by decide) q975 rfl (v := .int (iI (F 1))) rfl dX2_where_54 ?_
              have b15 : F 1 ≤ 1439 := hF 1
              refine lv_aload_n hx hb dX2_where_57 rfl (lv_at hl 3 rfl) ?_
              refine m_get hx hb hts hown hK hW 10 (by decide) q984 rfl (v := .ref (ad 10)) rfl dX2_where_58 ?_
              refine lv_aload_n hx hb dX2_where_61 rfl (lv_at hl 3 rfl) ?_
              refine m_get hx hb hts hown hK hW 27 (by decide) q1001 rfl (v := .ref (ad 27)) rfl dX2_where_62 ?_
              refine lv_iload hx hb dX2_where_65 (lv_at hl 0 rfl) ?_
              refine h_iald hx hb hK hW.a27 ((3 * wayN N b + i : Nat)) (by omega) (by omega) (by decide) dX2_where_67 ?_
              have b16 : N 27 ((3 * wayN N b + i : Nat)) ≤ 15 := hN 27 ((3 * wayN N b + i : Nat))
              refine lv_aload_n hx hb dX2_where_68 rfl (lv_at hl 3 rfl) ?_
              refine m_get hx hb hts hown hK hW 28 (by decide) q1002 rfl (v := .ref (ad 28)) rfl dX2_where_69 ?_
              refine lv_iload hx hb dX2_where_72 (lv_at hl 0 rfl) ?_
              refine h_iald hx hb hK hW.a28 ((3 * wayN N b + i : Nat)) (by omega) (by omega) (by decide) dX2_where_74 ?_
              have b17 : N 28 ((3 * wayN N b + i : Nat)) ≤ 9 := hN 28 ((3 * wayN N b + i : Nat))
              refine rc_V (W.runS (As := [.int (iI (N 27 ((3 * wayN N b + i : Nat)))), .int (iI (N 28 ((3 * wayN N b + i : Nat))))]) (rest := [.ref (ad 10), .int (iI (F 1))]) ⟨hx, hb, hml, hown, hts⟩ (mm_node l D cA (N 27 ((3 * wayN N b + i : Nat))) (N 28 ((3 * wayN N b + i : Nat))) ) (va_cwS 2 hts (lw_S q1114 q1115 q62 q1116) rfl rfl rfl (by decide +kernel) ⟨Nat.le_of_ble_eq_true rfl, Nat.le_of_ble_eq_true rfl⟩) (preS hK (B := fun _ => True) trivial) rfl rfl hl.1 rfl (lv_room (Nat.le_of_ble_eq_true rfl)) dX2_where_75 ⟨Nat.le_of_ble_eq_true rfl, Nat.le_of_ble_eq_true rfl⟩) ?_
              refine ri_top (b := (10 * N 27 (3 * wayN N b + i) + N 28 (3 * wayN N b + i) : Nat)) (by omega) ?_
              refine h_iald hx hb hK hW.a10 ((10 * N 27 (3 * wayN N b + i) + N 28 (3 * wayN N b + i) : Nat)) (by omega) (by omega) (by decide) dX2_where_78 ?_
              have b18 : N 10 ((10 * N 27 (3 * wayN N b + i) + N 28 (3 * wayN N b + i) : Nat)) ≤ 1439 := hN 10 ((10 * N 27 (3 * wayN N b + i) + N 28 (3 * wayN N b + i) : Nat))
              refine ri_icmp_ge (tgt := 84) hx hb (by unfold inR; omega) (by unfold inR; omega) dX2_where_79 (by decide) (fun h19 => ?_) (fun h19 => ?_)
              · skip
                refine lv_aload_n hx hb dX2_where_84 rfl (lv_at hl 3 rfl) ?_
                refine m_get hx hb hts hown hK hW 1 (by decide) q975 rfl (v := .int (iI (F 1))) rfl dX2_where_85 ?_
                refine lv_aload_n hx hb dX2_where_88 rfl (lv_at hl 3 rfl) ?_
                refine m_get hx hb hts hown hK hW 10 (by decide) q984 rfl (v := .ref (ad 10)) rfl dX2_where_89 ?_
                refine lv_aload_n hx hb dX2_where_92 rfl (lv_at hl 3 rfl) ?_
                refine m_get hx hb hts hown hK hW 27 (by decide) q1001 rfl (v := .ref (ad 27)) rfl dX2_where_93 ?_
                refine lv_iload hx hb dX2_where_96 (lv_at hl 0 rfl) ?_
                refine h_iald hx hb hK hW.a27 ((3 * wayN N b + i : Nat)) (by omega) (by omega) (by decide) dX2_where_98 ?_
                refine lv_aload_n hx hb dX2_where_99 rfl (lv_at hl 3 rfl) ?_
                refine m_get hx hb hts hown hK hW 29 (by decide) q1003 rfl (v := .ref (ad 29)) rfl dX2_where_100 ?_
                refine lv_iload hx hb dX2_where_103 (lv_at hl 0 rfl) ?_
                refine h_iald hx hb hK hW.a29 ((3 * wayN N b + i : Nat)) (by omega) (by omega) (by decide) dX2_where_105 ?_
                have b20 : N 29 ((3 * wayN N b + i : Nat)) ≤ 9 := hN 29 ((3 * wayN N b + i : Nat))
                refine rc_V (W.runS (As := [.int (iI (N 27 ((3 * wayN N b + i : Nat)))), .int (iI (N 29 ((3 * wayN N b + i : Nat))))]) (rest := [.ref (ad 10), .int (iI (F 1))]) ⟨hx, hb, hml, hown, hts⟩ (mm_node l D cA (N 27 ((3 * wayN N b + i : Nat))) (N 29 ((3 * wayN N b + i : Nat))) ) (va_cwS 2 hts (lw_S q1114 q1115 q62 q1116) rfl rfl rfl (by decide +kernel) ⟨Nat.le_of_ble_eq_true rfl, Nat.le_of_ble_eq_true rfl⟩) (preS hK (B := fun _ => True) trivial) rfl rfl hl.1 rfl (lv_room (Nat.le_of_ble_eq_true rfl)) dX2_where_106 ⟨Nat.le_of_ble_eq_true rfl, Nat.le_of_ble_eq_true rfl⟩) ?_
                refine ri_top (b := (10 * N 27 (3 * wayN N b + i) + N 29 (3 * wayN N b + i) : Nat)) (by omega) ?_
                refine h_iald hx hb hK hW.a10 ((10 * N 27 (3 * wayN N b + i) + N 29 (3 * wayN N b + i) : Nat)) (by omega) (by omega) (by decide) dX2_where_109 ?_
                have b21 : N 10 ((10 * N 27 (3 * wayN N b + i) + N 29 (3 * wayN N b + i) : Nat)) ≤ 1439 := hN 10 ((10 * N 27 (3 * wayN N b + i) + N 29 (3 * wayN N b + i) : Nat))
                refine ri_icmp_ge (tgt := 115) hx hb (by unfold inR; omega) (by unfold inR; omega) dX2_where_110 (by decide) (fun h22 => ?_) (fun h22 => ?_)
                · skip
                  refine lv_iinc (v := iI ((i + 1 : Nat))) (lv' := [(3, .int (iI ((i + 1 : Nat)))), (4, .int (iI ((3 * wayN N b + i : Nat)))), (2, .int (iI (wayN N b))), (0, .ref o), (1, .int (iI (b)))]) hx hb dX2_where_115 hl (k := 1) rfl (iI_succ _) (by decide) rfl (fun ls hl => ?_)
                  refine lv_goto (tgt := 36) hx hb dX2_where_118 (by decide) ?_
                  rw [show N 24 (wayN N b) - i = (N 24 (wayN N b) - (i + 1)) + 1 by omega, wlp, if_neg (by unfold onM; omega), if_neg (by unfold ofM; omega)] at hw
                  exact ih36 (i + 1) (by omega) hw (by omega) _ _ _ hW hS (lv_sub hl [0, 2, 3, 4] rfl)
                · skip
                  refine lv_iconst (v := iI (2)) hx hb dX2_where_113 rfl ?_
                  exact W.iret hx hb hr (fun t ht hWm => ⟨⟨_, rfl, by rw [ht]; exact ⟨by rw [hw, show N 24 (wayN N b) - i = (N 24 (wayN N b) - (i + 1)) + 1 by omega, wlp, if_neg (by unfold onM; omega), if_pos (by unfold ofM; omega)], hW⟩⟩, hS.F ht⟩) hS.2.2 dX2_where_114
              · skip
                refine lv_iconst (v := iI (1)) hx hb dX2_where_82 rfl ?_
                exact W.iret hx hb hr (fun t ht hWm => ⟨⟨_, rfl, by rw [ht]; exact ⟨by rw [hw, show N 24 (wayN N b) - i = (N 24 (wayN N b) - (i + 1)) + 1 by omega, wlp, if_pos (by unfold onM; omega)], hW⟩⟩, hS.F ht⟩) hS.2.2 dX2_where_83
        exact lp36 _ (0) (Nat.zero_le _) (by unfold whM; rw [if_pos hgo]; rfl) (Nat.lt_succ_self _) _ _ _ hW hS (lv_sub hl [0, 1, 2, 3] rfl)
      · skip
        exfalso; omega
    · rw [if_neg h3]
      refine ri_if_ne (tgt := 28) hx hb (by unfold inR; omega) dX2_where_23 (by decide) (fun h23 => ?_) (fun h23 => ?_)
      · skip
        exfalso; omega
      · skip
        refine lv_iconst (v := iI (0)) hx hb dX2_where_26 rfl ?_
        exact W.iret hx hb hr (fun t ht hWm => ⟨⟨_, rfl, by rw [ht]; exact ⟨by unfold whM; rw [if_neg (by omega)], hW⟩⟩, hS.F ht⟩) hS.2.2 dX2_where_27
  · skip
    exfalso; omega

set_option maxHeartbeats 4000000 in
set_option maxRecDepth 100000 in
theorem mm_where_x (l : Launch) (D : va_G) (cA : Nat → ClassId) (A : Nat → Prop) (o : Nat) (ad : Nat → Nat) (F G : Nat → Nat) (N X : Nat → Nat → Nat) (Z : Nat → Int) (K : Nat) (hKb : K ≤ 1000000) (hF : FB F) (hG : GB G) (hN : NB N) (hX : XB X) (hZ : ZB K Z) (b : Int) (q_b : inR b) (hbad : ¬ ∃ a : Nat, b = a ∧ a < F 4) : Met l yX2_where (ws_ yX2_where cX2_where 5 (some .int)) ({ frames := 2, cells := 0, slots := 0, locals := 51 }) (Pk D cA [.ref o, .int (iI (b))] (MW D cA A o ad F G N X Z)) (Qi (fun z H' => MW D cA A o ad (va_up (va_up F 0 0) 0 1) G N X Z H') A) 0 0 (A) := by
  refine Met.ofW (cc := cX2_where) (maxL := 5) (ret := (some .int)) (by decide) rfl ?_
  intro p e s m args below meth c s₁ B hml hv
  obtain ⟨rfl, hK, hW⟩ := hv
  have hx := B.exec
  have hb := B.bytes
  have hr := B.returns
  have hts := atoms_spec (ws := ws_ yX2_where cX2_where 5 (some .int)) B.pre
  have hts : ∀ w ∈ lw_all, w.before _ s = true := fun w h => hts w (List.mem_cons_of_mem _ h)
  have hown : s.vm.findClass RX2 = some m.cls := findClass_of_methodNamed B.named
  have hlocks := B.notSynchronized
  have hl := lv_entry ([.ref o, .int (iI (b))]) (n := 5) (Nat.le_of_ble_eq_true rfl)
  rw [lg_entry_eq]
  generalize (lg_sl ([.ref o, .int (iI (b))]) ++ List.replicate (5 - (lg_sl ([.ref o, .int (iI (b))])).length) Slot.unset).toArray = ls at hl ⊢
  have hl : lv_has ls 5 [(0, .ref o), (1, .int (iI (b)))] := hl
  have hS : va_S A s.heap s.heap [] := va_S.rf
  have q_b1 := q_b
  unfold inR at q_b1
  have hF4 : F 4 ≤ 60 := hF 4
  refine lv_aload_n hx hb dX2_where_0 rfl (lv_at hl 0 rfl) ?_
  refine lv_iconst (v := iI (0)) hx hb dX2_where_1 rfl ?_
  refine m_put hx hb hts hown hK hW hS 0 (by decide) q974 rfl rfl rfl (0) rfl dX2_where_2 (fun H locs hW hS => ?_)
  have hF : FB (va_up (F) 0 (0)) := hF.up (by show 0 ≤ 2; omega)
  have e1 : va_up F 0 0 1 = F 1 := rfl
  have e2 : va_up F 0 0 2 = F 2 := rfl
  have e3 : va_up F 0 0 3 = F 3 := rfl
  have e4 : va_up F 0 0 4 = F 4 := rfl
  have e5 : va_up F 0 0 5 = F 5 := rfl
  refine lv_aload_n hx hb dX2_where_5 rfl (lv_at hl 0 rfl) ?_
  refine lv_iload_n hx hb dX2_where_6 rfl (lv_at hl 1 rfl) ?_
  refine rc_V (W.runV (As := [.int (iI (b))]) (rest := []) ⟨hx, hb, hml, hown, hts⟩ (mm_isBox l D cA A o ad (va_up (F) 0 (0)) G N X Z K hKb hF hG hN hX hZ b (by unfold inR; omega)) (cwV 1 hts (lw_V q1206 q1208 qs34 q62 q1209) rfl rfl rfl (by decide +kernel) ⟨Nat.le_of_ble_eq_true rfl, Nat.le_of_ble_eq_true rfl⟩) (preV hK hW.1 rfl hW) rfl rfl hl.1 rfl (lv_room (Nat.le_of_ble_eq_true rfl)) dX2_where_7 ⟨Nat.le_of_ble_eq_true rfl, Nat.le_of_ble_eq_true rfl⟩) ?_
  rw [if_neg (show ¬ (0 ≤ (b : Int) ∧ (b : Int) < ((va_up (F) 0 (0)) 4 : Nat)) from fun q => hbad ⟨b.toNat, by omega, by omega⟩)]
  refine ri_if_ne (tgt := 18) hx hb (by unfold inR; omega) dX2_where_10 (by decide) (fun h2 => ?_) (fun h2 => ?_)
  · skip
    exfalso; omega
  · skip
    refine lv_aload_n hx hb dX2_where_13 rfl (lv_at hl 0 rfl) ?_
    refine rc_I (W.runV (As := []) (rest := []) ⟨hx, hb, hml, hown, hts⟩ (mm_fail l D cA A o ad (va_up (F) 0 (0)) G N X Z K hKb hF hG hN hX hZ  ) (cwV 0 hts (lw_V q1110 q1112 qs17 q62 q1113) rfl rfl rfl (by decide +kernel) ⟨Nat.le_of_ble_eq_true rfl, Nat.le_of_ble_eq_true rfl⟩) (preV hK hW.1 rfl hW) rfl rfl hl.1 rfl (lv_room (Nat.le_of_ble_eq_true rfl)) dX2_where_14 ⟨Nat.le_of_ble_eq_true rfl, Nat.le_of_ble_eq_true rfl⟩) hS (fun _ _ h => h) (fun _ h => h) (fun z H locs hq hS hz hk => ?_)
    obtain ⟨rfl, hW⟩ := hq
    exact W.iret hx hb hr (fun t ht hWm => ⟨⟨_, rfl, by rw [ht]; exact hW⟩, hS.F ht⟩) hS.2.2 dX2_where_17

set_option maxHeartbeats 4000000 in
set_option maxRecDepth 100000 in
theorem mm_of (l : Launch) (D : va_G) (cA : Nat → ClassId) (A : Nat → Prop) (o : Nat) (ad : Nat → Nat) (F G : Nat → Nat) (N X : Nat → Nat → Nat) (Z : Nat → Int) (K : Nat) (hKb : K ≤ 1000000) (hF : FB F) (hG : GB G) (hN : NB N) (hX : XB X) (hZ : ZB K Z) (b w : Nat) (hb4 : b < F 4) (hw6 : w ≤ 6) : Met l yX2_of (ws_ yX2_of cX2_of 4 (some .int)) ({ frames := 6, cells := 0, slots := 0, locals := 138 }) (Pk D cA [.ref o, .int (iI (b)), .int (iI (w))] (MW D cA A o ad F G N X Z)) (Qi (fun z H' => z = ofV F N b w ∧ MW D cA A o ad (va_up F 0 0) G N X Z H') A) 0 0 (A) := by
  refine Met.ofW (cc := cX2_of) (maxL := 4) (ret := (some .int)) (by decide) rfl ?_
  intro p e s m args below meth c s₁ B hml hv
  obtain ⟨rfl, hK, hW⟩ := hv
  have hx := B.exec
  have hb := B.bytes
  have hr := B.returns
  have hts := atoms_spec (ws := ws_ yX2_of cX2_of 4 (some .int)) B.pre
  have hts : ∀ w ∈ lw_all, w.before _ s = true := fun w h => hts w (List.mem_cons_of_mem _ h)
  have hown : s.vm.findClass RX2 = some m.cls := findClass_of_methodNamed B.named
  have hlocks := B.notSynchronized
  have hl := lv_entry ([.ref o, .int (iI (b)), .int (iI (w))]) (n := 4) (Nat.le_of_ble_eq_true rfl)
  rw [lg_entry_eq]
  generalize (lg_sl ([.ref o, .int (iI (b)), .int (iI (w))]) ++ List.replicate (4 - (lg_sl ([.ref o, .int (iI (b)), .int (iI (w))])).length) Slot.unset).toArray = ls at hl ⊢
  have hl : lv_has ls 4 [(0, .ref o), (1, .int (iI (b))), (2, .int (iI (w)))] := hl
  have hS : va_S A s.heap s.heap [] := va_S.rf
  have hF4 : F 4 ≤ 60 := hF 4
  refine lv_aload_n hx hb dX2_of_0 rfl (lv_at hl 0 rfl) ?_
  refine lv_iconst (v := iI (0)) hx hb dX2_of_1 rfl ?_
  refine m_put hx hb hts hown hK hW hS 0 (by decide) q974 rfl rfl rfl (0) rfl dX2_of_2 (fun H locs hW hS => ?_)
  have hF : FB (va_up (F) 0 (0)) := hF.up (by show 0 ≤ 2; omega)
  have e1 : va_up F 0 0 1 = F 1 := rfl
  have e2 : va_up F 0 0 2 = F 2 := rfl
  have e3 : va_up F 0 0 3 = F 3 := rfl
  have e4 : va_up F 0 0 4 = F 4 := rfl
  have e5 : va_up F 0 0 5 = F 5 := rfl
  refine lv_aload_n hx hb dX2_of_5 rfl (lv_at hl 0 rfl) ?_
  refine lv_iload_n hx hb dX2_of_6 rfl (lv_at hl 1 rfl) ?_
  refine rc_V (W.runV (As := [.int (iI (b))]) (rest := []) ⟨hx, hb, hml, hown, hts⟩ (mm_isBox l D cA A o ad (va_up (F) 0 (0)) G N X Z K hKb hF hG hN hX hZ b (by unfold inR; omega)) (cwV 1 hts (lw_V q1206 q1208 qs34 q62 q1209) rfl rfl rfl (by decide +kernel) ⟨Nat.le_of_ble_eq_true rfl, Nat.le_of_ble_eq_true rfl⟩) (preV hK hW.1 rfl hW) rfl rfl hl.1 rfl (lv_room (Nat.le_of_ble_eq_true rfl)) dX2_of_7 ⟨Nat.le_of_ble_eq_true rfl, Nat.le_of_ble_eq_true rfl⟩) ?_
  rw [if_pos (show 0 ≤ (b : Int) ∧ (b : Int) < ((va_up (F) 0 (0)) 4 : Nat) from by omega)]
  refine ri_if_ne (tgt := 18) hx hb (by unfold inR; omega) dX2_of_10 (by decide) (fun h2 => ?_) (fun h2 => ?_)
  · skip
    refine lv_aload_n hx hb dX2_of_18 rfl (lv_at hl 0 rfl) ?_
    refine lv_iload_n hx hb dX2_of_19 rfl (lv_at hl 1 rfl) ?_
    refine rc_V (W.runV (As := [.int (iI (b))]) (rest := []) ⟨hx, hb, hml, hown, hts⟩ (mm_wayOf l D cA A o ad (va_up (F) 0 (0)) G N X Z K hKb hF hG hN hX hZ b (by omega)) (cwV 1 hts (lw_V q1125 q1127 qs18 q62 q1128) rfl rfl rfl (by decide +kernel) ⟨Nat.le_of_ble_eq_true rfl, Nat.le_of_ble_eq_true rfl⟩) (preV hK hW.1 rfl hW) rfl rfl hl.1 rfl (lv_room (Nat.le_of_ble_eq_true rfl)) dX2_of_20 ⟨Nat.le_of_ble_eq_true rfl, Nat.le_of_ble_eq_true rfl⟩) ?_
    have b3 : wayN N b < 120 := wayN_lt hN (by omega)
    refine lv_istore_n (lv' := [(3, .int (iI (wayN N b))), (0, .ref o), (1, .int (iI (b))), (2, .int (iI (w)))]) hx hb dX2_of_23 rfl hl (by decide) rfl (fun ls hl => ?_)
    refine lv_iload_n hx hb dX2_of_24 rfl (lv_at hl 3 rfl) ?_
    rcases (by omega : w < 0 ∨ 6 < w ∨ w = 0 ∨ w = 1 ∨ w = 2 ∨ w = 3 ∨ w = 4 ∨ w = 5 ∨ w = 6) with h4 | h4 | h4 | h4 | h4 | h4 | h4 | h4 | h4
    · skip
      exfalso; omega
    · skip
      exfalso; omega
    · skip
      subst h4
      refine lv_tableIn (tgt := 68) (off := 43) hx hb dX2_of_25 (by decide) (by decide) (by decide) (by decide) ?_
      refine lv_aload_n hx hb dX2_of_68 rfl (lv_at hl 1 rfl) ?_
      refine m_get hx hb hts hown hK hW 24 (by decide) q998 rfl (v := .ref (ad 24)) rfl dX2_of_69 ?_
      refine lv_iload_n hx hb dX2_of_72 rfl (lv_at hl 0 rfl) ?_
      refine h_iald hx hb hK hW.a24 (wayN N b) (by omega) (by omega) (by decide) dX2_of_73 ?_
      have b5 : N 24 (wayN N b) ≤ 3 := hN 24 (wayN N b)
      exact W.iret hx hb hr (fun t ht hWm => ⟨⟨_, rfl, by rw [ht]; exact ⟨by unfold ofV; (repeat' split) <;> omega, hW⟩⟩, hS.F ht⟩) hS.2.2 dX2_of_74
    · skip
      subst h4
      refine lv_tableIn (tgt := 75) (off := 50) hx hb dX2_of_25 (by decide) (by decide) (by decide) (by decide) ?_
      refine lv_aload_n hx hb dX2_of_75 rfl (lv_at hl 1 rfl) ?_
      refine lv_iload_n hx hb dX2_of_76 rfl (lv_at hl 2 rfl) ?_
      refine rc_V (W.runV (As := [.int (iI (b))]) (rest := []) ⟨hx, hb, hml, hown, hts⟩ (mm_arrives l D cA A o ad (va_up (F) 0 (0)) G N X Z K hKb hF hG hN hX hZ b (by omega)) (cwV 1 hts (lw_V q1210 q1212 qs35 q62 q1213) rfl rfl rfl (by decide +kernel) ⟨Nat.le_of_ble_eq_true rfl, Nat.le_of_ble_eq_true rfl⟩) (preV hK hW.1 rfl hW) rfl rfl hl.1 rfl (lv_room (Nat.le_of_ble_eq_true rfl)) dX2_of_77 ⟨Nat.le_of_ble_eq_true rfl, Nat.le_of_ble_eq_true rfl⟩) ?_
      have b6 : -1 ≤ arrN N b ∧ arrN N b ≤ 1739 := arrN_le hN _
      exact W.iret hx hb hr (fun t ht hWm => ⟨⟨_, rfl, by rw [ht]; exact ⟨by unfold ofV; (repeat' split) <;> omega, hW⟩⟩, hS.F ht⟩) hS.2.2 dX2_of_80
    · skip
      subst h4
      refine lv_tableIn (tgt := 81) (off := 56) hx hb dX2_of_25 (by decide) (by decide) (by decide) (by decide) ?_
      refine lv_aload_n hx hb dX2_of_81 rfl (lv_at hl 1 rfl) ?_
      refine lv_iload_n hx hb dX2_of_82 rfl (lv_at hl 2 rfl) ?_
      refine rc_V (W.runV (As := [.int (iI (b))]) (rest := []) ⟨hx, hb, hml, hown, hts⟩ (mm_isGone l D cA A o ad (va_up (F) 0 (0)) G N X Z K hKb hF hG hN hX hZ b (by omega)) (cwV 1 hts (lw_V q1218 q1220 qs36 q62 q1221) rfl rfl rfl (by decide +kernel) ⟨Nat.le_of_ble_eq_true rfl, Nat.le_of_ble_eq_true rfl⟩) (preV hK hW.1 rfl hW) rfl rfl hl.1 rfl (lv_room (Nat.le_of_ble_eq_true rfl)) dX2_of_83 ⟨Nat.le_of_ble_eq_true rfl, Nat.le_of_ble_eq_true rfl⟩) ?_
      by_cases h7 : rdN N b ≤ (va_up (F) 0 (0)) 1 ∧ N 22 (wayN N b) ≠ 0
      · rw [if_pos h7]
        refine ri_if_eq (tgt := 93) hx hb (by unfold inR; omega) dX2_of_86 (by decide) (fun h8 => ?_) (fun h8 => ?_)
        · skip
          exfalso; omega
        · skip
          refine lv_iconst (v := iI (1)) hx hb dX2_of_89 rfl ?_
          refine lv_goto (tgt := 94) hx hb dX2_of_90 (by decide) ?_
          exact W.iret hx hb hr (fun t ht hWm => ⟨⟨_, rfl, by rw [ht]; exact ⟨by unfold ofV; (repeat' split) <;> omega, hW⟩⟩, hS.F ht⟩) hS.2.2 dX2_of_94
      · rw [if_neg h7]
        refine ri_if_eq (tgt := 93) hx hb (by unfold inR; omega) dX2_of_86 (by decide) (fun h9 => ?_) (fun h9 => ?_)
        · skip
          refine lv_iconst (v := iI (0)) hx hb dX2_of_93 rfl ?_
          exact W.iret hx hb hr (fun t ht hWm => ⟨⟨_, rfl, by rw [ht]; exact ⟨by unfold ofV; (repeat' split) <;> omega, hW⟩⟩, hS.F ht⟩) hS.2.2 dX2_of_94
        · skip
          exfalso; omega
    · skip
      subst h4
      refine lv_tableIn (tgt := 95) (off := 70) hx hb dX2_of_25 (by decide) (by decide) (by decide) (by decide) ?_
      refine lv_aload_n hx hb dX2_of_95 rfl (lv_at hl 1 rfl) ?_
      refine lv_iload_n hx hb dX2_of_96 rfl (lv_at hl 2 rfl) ?_
      refine rc_V (W.runV (As := [.int (iI (b))]) (rest := []) ⟨hx, hb, hml, hown, hts⟩ (mm_isLate l D cA A o ad (va_up (F) 0 (0)) G N X Z K hKb hF hG hN hX hZ b (by omega)) (cwV 1 hts (lw_V q1222 q1224 qs37 q62 q1225) rfl rfl rfl (by decide +kernel) ⟨Nat.le_of_ble_eq_true rfl, Nat.le_of_ble_eq_true rfl⟩) (preV hK hW.1 rfl hW) rfl rfl hl.1 rfl (lv_room (Nat.le_of_ble_eq_true rfl)) dX2_of_97 ⟨Nat.le_of_ble_eq_true rfl, Nat.le_of_ble_eq_true rfl⟩) ?_
      by_cases h10 : (if N 21 b = 0 then (N 19 b : Int) else 1439) < arrN N b
      · rw [if_pos h10]
        refine ri_if_eq (tgt := 107) hx hb (by unfold inR; omega) dX2_of_100 (by decide) (fun h11 => ?_) (fun h11 => ?_)
        · skip
          exfalso; omega
        · skip
          refine lv_iconst (v := iI (1)) hx hb dX2_of_103 rfl ?_
          refine lv_goto (tgt := 108) hx hb dX2_of_104 (by decide) ?_
          exact W.iret hx hb hr (fun t ht hWm => ⟨⟨_, rfl, by rw [ht]; exact ⟨by unfold ofV; (repeat' split) <;> omega, hW⟩⟩, hS.F ht⟩) hS.2.2 dX2_of_108
      · rw [if_neg h10]
        refine ri_if_eq (tgt := 107) hx hb (by unfold inR; omega) dX2_of_100 (by decide) (fun h12 => ?_) (fun h12 => ?_)
        · skip
          refine lv_iconst (v := iI (0)) hx hb dX2_of_107 rfl ?_
          exact W.iret hx hb hr (fun t ht hWm => ⟨⟨_, rfl, by rw [ht]; exact ⟨by unfold ofV; (repeat' split) <;> omega, hW⟩⟩, hS.F ht⟩) hS.2.2 dX2_of_108
        · skip
          exfalso; omega
    · skip
      subst h4
      refine lv_tableIn (tgt := 109) (off := 84) hx hb dX2_of_25 (by decide) (by decide) (by decide) (by decide) ?_
      refine lv_aload_n hx hb dX2_of_109 rfl (lv_at hl 1 rfl) ?_
      refine m_get hx hb hts hown hK hW 25 (by decide) q999 rfl (v := .ref (ad 25)) rfl dX2_of_110 ?_
      refine lv_iload_n hx hb dX2_of_113 rfl (lv_at hl 0 rfl) ?_
      refine h_iald hx hb hK hW.a25 (wayN N b) (by omega) (by omega) (by decide) dX2_of_114 ?_
      have b13 : N 25 (wayN N b) ≤ 10 := hN 25 (wayN N b)
      exact W.iret hx hb hr (fun t ht hWm => ⟨⟨_, rfl, by rw [ht]; exact ⟨by unfold ofV; (repeat' split) <;> omega, hW⟩⟩, hS.F ht⟩) hS.2.2 dX2_of_115
    · skip
      subst h4
      refine lv_tableIn (tgt := 116) (off := 91) hx hb dX2_of_25 (by decide) (by decide) (by decide) (by decide) ?_
      refine lv_aload_n hx hb dX2_of_116 rfl (lv_at hl 1 rfl) ?_
      refine m_get hx hb hts hown hK hW 25 (by decide) q999 rfl (v := .ref (ad 25)) rfl dX2_of_117 ?_
      refine lv_iload_n hx hb dX2_of_120 rfl (lv_at hl 0 rfl) ?_
      refine h_iald hx hb hK hW.a25 (wayN N b) (by omega) (by omega) (by decide) dX2_of_121 ?_
      have b14 : N 25 (wayN N b) ≤ 10 := hN 25 (wayN N b)
      refine lv_iconst (v := iI (-1)) hx hb dX2_of_122 rfl ?_
      refine ri_icmp_ne (tgt := 130) hx hb (by unfold inR; omega) (by unfold inR; omega) dX2_of_123 (by decide) (fun h15 => ?_) (fun h15 => ?_)
      · skip
        refine lv_aload_n hx hb dX2_of_130 rfl (lv_at hl 1 rfl) ?_
        refine m_get hx hb hts hown hK hW 26 (by decide) q1000 rfl (v := .ref (ad 26)) rfl dX2_of_131 ?_
        refine lv_iload_n hx hb dX2_of_134 rfl (lv_at hl 0 rfl) ?_
        refine h_iald hx hb hK hW.a26 (wayN N b) (by omega) (by omega) (by decide) dX2_of_135 ?_
        have b16 : N 26 (wayN N b) ≤ 2000 := hN 26 (wayN N b)
        exact W.iret hx hb hr (fun t ht hWm => ⟨⟨_, rfl, by rw [ht]; exact ⟨by unfold ofV; (repeat' split) <;> omega, hW⟩⟩, hS.F ht⟩) hS.2.2 dX2_of_136
      · skip
        refine lv_iconst (v := iI (-1)) hx hb dX2_of_126 rfl ?_
        refine lv_goto (tgt := 136) hx hb dX2_of_127 (by decide) ?_
        exact W.iret hx hb hr (fun t ht hWm => ⟨⟨_, rfl, by rw [ht]; exact ⟨by unfold ofV; (repeat' split) <;> omega, hW⟩⟩, hS.F ht⟩) hS.2.2 dX2_of_136
    · skip
      subst h4
      refine lv_tableIn (tgt := 137) (off := 112) hx hb dX2_of_25 (by decide) (by decide) (by decide) (by decide) ?_
      refine lv_aload_n hx hb dX2_of_137 rfl (lv_at hl 1 rfl) ?_
      refine m_get hx hb hts hown hK hW 21 (by decide) q995 rfl (v := .ref (ad 21)) rfl dX2_of_138 ?_
      refine lv_iload_n hx hb dX2_of_141 rfl (lv_at hl 2 rfl) ?_
      refine h_zald hx hb hK hW.a21 (b) (by omega) (by omega) (by decide) dX2_of_142 ?_
      have b17 : N 21 (b) ≤ 1 := hN 21 (b)
      refine ri_if_eq (tgt := 150) hx hb (by unfold inR; omega) dX2_of_143 (by decide) (fun h18 => ?_) (fun h18 => ?_)
      · skip
        refine lv_iconst (v := iI (0)) hx hb dX2_of_150 rfl ?_
        exact W.iret hx hb hr (fun t ht hWm => ⟨⟨_, rfl, by rw [ht]; exact ⟨by unfold ofV; (repeat' split) <;> omega, hW⟩⟩, hS.F ht⟩) hS.2.2 dX2_of_151
      · skip
        refine lv_iconst (v := iI (1)) hx hb dX2_of_146 rfl ?_
        refine lv_goto (tgt := 151) hx hb dX2_of_147 (by decide) ?_
        exact W.iret hx hb hr (fun t ht hWm => ⟨⟨_, rfl, by rw [ht]; exact ⟨by unfold ofV; (repeat' split) <;> omega, hW⟩⟩, hS.F ht⟩) hS.2.2 dX2_of_151
  · skip
    exfalso; omega

set_option maxHeartbeats 4000000 in
set_option maxRecDepth 100000 in
theorem mm_of_x (l : Launch) (D : va_G) (cA : Nat → ClassId) (A : Nat → Prop) (o : Nat) (ad : Nat → Nat) (F G : Nat → Nat) (N X : Nat → Nat → Nat) (Z : Nat → Int) (K : Nat) (hKb : K ≤ 1000000) (hF : FB F) (hG : GB G) (hN : NB N) (hX : XB X) (hZ : ZB K Z) (b w : Int) (q_b : inR b) (q_w : inR w) (hbad : ¬ ∃ a v : Nat, b = a ∧ w = v ∧ a < F 4 ∧ v ≤ 6) : Met l yX2_of (ws_ yX2_of cX2_of 4 (some .int)) ({ frames := 2, cells := 0, slots := 0, locals := 51 }) (Pk D cA [.ref o, .int (iI (b)), .int (iI (w))] (MW D cA A o ad F G N X Z)) (Qi (fun z H' => MW D cA A o ad (va_up (va_up F 0 0) 0 1) G N X Z H') A) 0 0 (A) := by
  refine Met.ofW (cc := cX2_of) (maxL := 4) (ret := (some .int)) (by decide) rfl ?_
  intro p e s m args below meth c s₁ B hml hv
  obtain ⟨rfl, hK, hW⟩ := hv
  have hx := B.exec
  have hb := B.bytes
  have hr := B.returns
  have hts := atoms_spec (ws := ws_ yX2_of cX2_of 4 (some .int)) B.pre
  have hts : ∀ w ∈ lw_all, w.before _ s = true := fun w h => hts w (List.mem_cons_of_mem _ h)
  have hown : s.vm.findClass RX2 = some m.cls := findClass_of_methodNamed B.named
  have hlocks := B.notSynchronized
  have hl := lv_entry ([.ref o, .int (iI (b)), .int (iI (w))]) (n := 4) (Nat.le_of_ble_eq_true rfl)
  rw [lg_entry_eq]
  generalize (lg_sl ([.ref o, .int (iI (b)), .int (iI (w))]) ++ List.replicate (4 - (lg_sl ([.ref o, .int (iI (b)), .int (iI (w))])).length) Slot.unset).toArray = ls at hl ⊢
  have hl : lv_has ls 4 [(0, .ref o), (1, .int (iI (b))), (2, .int (iI (w)))] := hl
  have hS : va_S A s.heap s.heap [] := va_S.rf
  have q_b1 := q_b
  unfold inR at q_b1
  have q_w1 := q_w
  unfold inR at q_w1
  have hF4 : F 4 ≤ 60 := hF 4
  refine lv_aload_n hx hb dX2_of_0 rfl (lv_at hl 0 rfl) ?_
  refine lv_iconst (v := iI (0)) hx hb dX2_of_1 rfl ?_
  refine m_put hx hb hts hown hK hW hS 0 (by decide) q974 rfl rfl rfl (0) rfl dX2_of_2 (fun H locs hW hS => ?_)
  have hF : FB (va_up (F) 0 (0)) := hF.up (by show 0 ≤ 2; omega)
  have e1 : va_up F 0 0 1 = F 1 := rfl
  have e2 : va_up F 0 0 2 = F 2 := rfl
  have e3 : va_up F 0 0 3 = F 3 := rfl
  have e4 : va_up F 0 0 4 = F 4 := rfl
  have e5 : va_up F 0 0 5 = F 5 := rfl
  refine lv_aload_n hx hb dX2_of_5 rfl (lv_at hl 0 rfl) ?_
  refine lv_iload_n hx hb dX2_of_6 rfl (lv_at hl 1 rfl) ?_
  refine rc_V (W.runV (As := [.int (iI (b))]) (rest := []) ⟨hx, hb, hml, hown, hts⟩ (mm_isBox l D cA A o ad (va_up (F) 0 (0)) G N X Z K hKb hF hG hN hX hZ b (by unfold inR; omega)) (cwV 1 hts (lw_V q1206 q1208 qs34 q62 q1209) rfl rfl rfl (by decide +kernel) ⟨Nat.le_of_ble_eq_true rfl, Nat.le_of_ble_eq_true rfl⟩) (preV hK hW.1 rfl hW) rfl rfl hl.1 rfl (lv_room (Nat.le_of_ble_eq_true rfl)) dX2_of_7 ⟨Nat.le_of_ble_eq_true rfl, Nat.le_of_ble_eq_true rfl⟩) ?_
  by_cases h1 : 0 ≤ (b : Int) ∧ (b : Int) < ((va_up (F) 0 (0)) 4 : Nat)
  · rw [if_pos h1]
    obtain ⟨bn, rfl⟩ : ∃ n : Nat, b = (n : Int) := ⟨b.toNat, by omega⟩
    refine ri_if_ne (tgt := 18) hx hb (by unfold inR; omega) dX2_of_10 (by decide) (fun h2 => ?_) (fun h2 => ?_)
    · skip
      refine lv_aload_n hx hb dX2_of_18 rfl (lv_at hl 0 rfl) ?_
      refine lv_iload_n hx hb dX2_of_19 rfl (lv_at hl 1 rfl) ?_
      refine rc_V (W.runV (As := [.int (iI (bn))]) (rest := []) ⟨hx, hb, hml, hown, hts⟩ (mm_wayOf l D cA A o ad (va_up (F) 0 (0)) G N X Z K hKb hF hG hN hX hZ bn (by omega)) (cwV 1 hts (lw_V q1125 q1127 qs18 q62 q1128) rfl rfl rfl (by decide +kernel) ⟨Nat.le_of_ble_eq_true rfl, Nat.le_of_ble_eq_true rfl⟩) (preV hK hW.1 rfl hW) rfl rfl hl.1 rfl (lv_room (Nat.le_of_ble_eq_true rfl)) dX2_of_20 ⟨Nat.le_of_ble_eq_true rfl, Nat.le_of_ble_eq_true rfl⟩) ?_
      have b3 : wayN N bn < 120 := wayN_lt hN (by omega)
      refine lv_istore_n (lv' := [(3, .int (iI (wayN N bn))), (0, .ref o), (1, .int (iI (bn))), (2, .int (iI (w)))]) hx hb dX2_of_23 rfl hl (by decide) rfl (fun ls hl => ?_)
      refine lv_iload_n hx hb dX2_of_24 rfl (lv_at hl 3 rfl) ?_
      rcases (by omega : w < 0 ∨ 6 < w ∨ w = 0 ∨ w = 1 ∨ w = 2 ∨ w = 3 ∨ w = 4 ∨ w = 5 ∨ w = 6) with h4 | h4 | h4 | h4 | h4 | h4 | h4 | h4 | h4
      · skip
        refine lv_tableOut (tgt := 152) hx hb dX2_of_25 (by rw [iI_toInt (by unfold inR; omega)]; omega) (by decide) ?_
        refine lv_aload_n hx hb dX2_of_152 rfl (lv_at hl 1 rfl) ?_
        refine rc_I (W.runV (As := []) (rest := []) ⟨hx, hb, hml, hown, hts⟩ (mm_fail l D cA A o ad (va_up (F) 0 (0)) G N X Z K hKb hF hG hN hX hZ  ) (cwV 0 hts (lw_V q1110 q1112 qs17 q62 q1113) rfl rfl rfl (by decide +kernel) ⟨Nat.le_of_ble_eq_true rfl, Nat.le_of_ble_eq_true rfl⟩) (preV hK hW.1 rfl hW) rfl rfl hl.1 rfl (lv_room (Nat.le_of_ble_eq_true rfl)) dX2_of_153 ⟨Nat.le_of_ble_eq_true rfl, Nat.le_of_ble_eq_true rfl⟩) hS (fun _ _ h => h) (fun _ h => h) (fun z H locs hq hS hz hk => ?_)
        obtain ⟨rfl, hW⟩ := hq
        exact W.iret hx hb hr (fun t ht hWm => ⟨⟨_, rfl, by rw [ht]; exact hW⟩, hS.F ht⟩) hS.2.2 dX2_of_156
      · skip
        refine lv_tableOut (tgt := 152) hx hb dX2_of_25 (by rw [iI_toInt (by unfold inR; omega)]; omega) (by decide) ?_
        refine lv_aload_n hx hb dX2_of_152 rfl (lv_at hl 1 rfl) ?_
        refine rc_I (W.runV (As := []) (rest := []) ⟨hx, hb, hml, hown, hts⟩ (mm_fail l D cA A o ad (va_up (F) 0 (0)) G N X Z K hKb hF hG hN hX hZ  ) (cwV 0 hts (lw_V q1110 q1112 qs17 q62 q1113) rfl rfl rfl (by decide +kernel) ⟨Nat.le_of_ble_eq_true rfl, Nat.le_of_ble_eq_true rfl⟩) (preV hK hW.1 rfl hW) rfl rfl hl.1 rfl (lv_room (Nat.le_of_ble_eq_true rfl)) dX2_of_153 ⟨Nat.le_of_ble_eq_true rfl, Nat.le_of_ble_eq_true rfl⟩) hS (fun _ _ h => h) (fun _ h => h) (fun z H locs hq hS hz hk => ?_)
        obtain ⟨rfl, hW⟩ := hq
        exact W.iret hx hb hr (fun t ht hWm => ⟨⟨_, rfl, by rw [ht]; exact hW⟩, hS.F ht⟩) hS.2.2 dX2_of_156
      · skip
        subst h4
        refine lv_tableIn (tgt := 68) (off := 43) hx hb dX2_of_25 (by decide) (by decide) (by decide) (by decide) ?_
        exact absurd ⟨bn, 0, by omega, by omega, by omega, by omega⟩ hbad
      · skip
        subst h4
        refine lv_tableIn (tgt := 75) (off := 50) hx hb dX2_of_25 (by decide) (by decide) (by decide) (by decide) ?_
        exact absurd ⟨bn, 1, by omega, by omega, by omega, by omega⟩ hbad
      · skip
        subst h4
        refine lv_tableIn (tgt := 81) (off := 56) hx hb dX2_of_25 (by decide) (by decide) (by decide) (by decide) ?_
        exact absurd ⟨bn, 2, by omega, by omega, by omega, by omega⟩ hbad
      · skip
        subst h4
        refine lv_tableIn (tgt := 95) (off := 70) hx hb dX2_of_25 (by decide) (by decide) (by decide) (by decide) ?_
        exact absurd ⟨bn, 3, by omega, by omega, by omega, by omega⟩ hbad
      · skip
        subst h4
        refine lv_tableIn (tgt := 109) (off := 84) hx hb dX2_of_25 (by decide) (by decide) (by decide) (by decide) ?_
        exact absurd ⟨bn, 4, by omega, by omega, by omega, by omega⟩ hbad
      · skip
        subst h4
        refine lv_tableIn (tgt := 116) (off := 91) hx hb dX2_of_25 (by decide) (by decide) (by decide) (by decide) ?_
        exact absurd ⟨bn, 5, by omega, by omega, by omega, by omega⟩ hbad
      · skip
        subst h4
        refine lv_tableIn (tgt := 137) (off := 112) hx hb dX2_of_25 (by decide) (by decide) (by decide) (by decide) ?_
        exact absurd ⟨bn, 6, by omega, by omega, by omega, by omega⟩ hbad
    · skip
      exfalso; omega
  · rw [if_neg h1]
    refine ri_if_ne (tgt := 18) hx hb (by unfold inR; omega) dX2_of_10 (by decide) (fun h5 => ?_) (fun h5 => ?_)
    · skip
      exfalso; omega
    · skip
      refine lv_aload_n hx hb dX2_of_13 rfl (lv_at hl 0 rfl) ?_
      refine rc_I (W.runV (As := []) (rest := []) ⟨hx, hb, hml, hown, hts⟩ (mm_fail l D cA A o ad (va_up (F) 0 (0)) G N X Z K hKb hF hG hN hX hZ  ) (cwV 0 hts (lw_V q1110 q1112 qs17 q62 q1113) rfl rfl rfl (by decide +kernel) ⟨Nat.le_of_ble_eq_true rfl, Nat.le_of_ble_eq_true rfl⟩) (preV hK hW.1 rfl hW) rfl rfl hl.1 rfl (lv_room (Nat.le_of_ble_eq_true rfl)) dX2_of_14 ⟨Nat.le_of_ble_eq_true rfl, Nat.le_of_ble_eq_true rfl⟩) hS (fun _ _ h => h) (fun _ h => h) (fun z H locs hq hS hz hk => ?_)
      obtain ⟨rfl, hW⟩ := hq
      exact W.iret hx hb hr (fun t ht hWm => ⟨⟨_, rfl, by rw [ht]; exact hW⟩, hS.F ht⟩) hS.2.2 dX2_of_17

set_option maxHeartbeats 4000000 in
set_option maxRecDepth 100000 in
theorem mm_empty (l : Launch) (D : va_G) (cA : Nat → ClassId) (A : Nat → Prop) (o : Nat) (ad : Nat → Nat) (F G : Nat → Nat) (N X : Nat → Nat → Nat) (Z : Nat → Int) (K : Nat) (hKb : K ≤ 1000000) (hF : FB F) (hG : GB G) (hN : NB N) (hX : XB X) (hZ : ZB K Z) (b : Nat) (r : Int) (q_r : inR r) (hb4 : b < F 4) : Met l yX2_empty (ws_ yX2_empty cX2_empty 3 (some .boolean)) ({ frames := 5, cells := 0, slots := 0, locals := 117 }) (Pk D cA [.ref o, .int (iI (b)), .int (iI (r))] (MW D cA A o ad F G N X Z)) (Qi (fun z H' => (okEmpty F N b r → z = 1 ∧ MW D cA A o ad (va_up F 0 0) G (up2 (up2 N 21 b 1) 20 b r.toNat) X Z H') ∧ (¬ okEmpty F N b r → z = 0 ∧ MW D cA A o ad (va_up F 0 0) G N X Z H')) A) 0 0 (A) := by
  refine Met.ofW (cc := cX2_empty) (maxL := 3) (ret := (some .boolean)) (by decide) rfl ?_
  intro p e s m args below meth c s₁ B hml hv
  obtain ⟨rfl, hK, hW⟩ := hv
  have hx := B.exec
  have hb := B.bytes
  have hr := B.returns
  have hts := atoms_spec (ws := ws_ yX2_empty cX2_empty 3 (some .boolean)) B.pre
  have hts : ∀ w ∈ lw_all, w.before _ s = true := fun w h => hts w (List.mem_cons_of_mem _ h)
  have hown : s.vm.findClass RX2 = some m.cls := findClass_of_methodNamed B.named
  have hlocks := B.notSynchronized
  have hl := lv_entry ([.ref o, .int (iI (b)), .int (iI (r))]) (n := 3) (Nat.le_of_ble_eq_true rfl)
  rw [lg_entry_eq]
  generalize (lg_sl ([.ref o, .int (iI (b)), .int (iI (r))]) ++ List.replicate (3 - (lg_sl ([.ref o, .int (iI (b)), .int (iI (r))])).length) Slot.unset).toArray = ls at hl ⊢
  have hl : lv_has ls 3 [(0, .ref o), (1, .int (iI (b))), (2, .int (iI (r)))] := hl
  have hS : va_S A s.heap s.heap [] := va_S.rf
  have hF4 : F 4 ≤ 60 := hF 4
  have q_r1 := q_r
  unfold inR at q_r1
  have hF1 : F 1 ≤ 1439 := hF 1
  refine lv_aload_n hx hb dX2_empty_0 rfl (lv_at hl 0 rfl) ?_
  refine lv_iconst (v := iI (0)) hx hb dX2_empty_1 rfl ?_
  refine m_put hx hb hts hown hK hW hS 0 (by decide) q974 rfl rfl rfl (0) rfl dX2_empty_2 (fun H locs hW hS => ?_)
  have hF : FB (va_up (F) 0 (0)) := hF.up (by show 0 ≤ 2; omega)
  have e1 : va_up F 0 0 1 = F 1 := rfl
  have e2 : va_up F 0 0 2 = F 2 := rfl
  have e3 : va_up F 0 0 3 = F 3 := rfl
  have e4 : va_up F 0 0 4 = F 4 := rfl
  have e5 : va_up F 0 0 5 = F 5 := rfl
  refine lv_aload_n hx hb dX2_empty_5 rfl (lv_at hl 0 rfl) ?_
  refine lv_iload_n hx hb dX2_empty_6 rfl (lv_at hl 1 rfl) ?_
  refine rc_V (W.runV (As := [.int (iI (b))]) (rest := []) ⟨hx, hb, hml, hown, hts⟩ (mm_isBox l D cA A o ad (va_up (F) 0 (0)) G N X Z K hKb hF hG hN hX hZ b (by unfold inR; omega)) (cwV 1 hts (lw_V q1206 q1208 qs34 q62 q1209) rfl rfl rfl (by decide +kernel) ⟨Nat.le_of_ble_eq_true rfl, Nat.le_of_ble_eq_true rfl⟩) (preV hK hW.1 rfl hW) rfl rfl hl.1 rfl (lv_room (Nat.le_of_ble_eq_true rfl)) dX2_empty_7 ⟨Nat.le_of_ble_eq_true rfl, Nat.le_of_ble_eq_true rfl⟩) ?_
  rw [if_pos (show 0 ≤ (b : Int) ∧ (b : Int) < ((va_up (F) 0 (0)) 4 : Nat) from by omega)]
  refine ri_if_ne (tgt := 20) hx hb (by unfold inR; omega) dX2_empty_10 (by decide) (fun h2 => ?_) (fun h2 => ?_)
  · skip
    refine lv_aload_n hx hb dX2_empty_20 rfl (lv_at hl 0 rfl) ?_
    refine m_get hx hb hts hown hK hW 21 (by decide) q995 rfl (v := .ref (ad 21)) rfl dX2_empty_21 ?_
    refine lv_iload_n hx hb dX2_empty_24 rfl (lv_at hl 1 rfl) ?_
    refine h_zald hx hb hK hW.a21 (b) (by omega) (by omega) (by decide) dX2_empty_25 ?_
    have b3 : N 21 (b) ≤ 1 := hN 21 (b)
    refine ri_if_ne (tgt := 65) hx hb (by unfold inR; omega) dX2_empty_26 (by decide) (fun h4 => ?_) (fun h4 => ?_)
    · skip
      refine lv_iconst (v := iI (0)) hx hb dX2_empty_65 rfl ?_
      exact W.zret hx hb hr (by rfl) (fun t ht hWm => ⟨⟨_, rfl, by rw [ht]; exact ⟨fun q => absurd q (by unfold okEmpty; omega), fun _ => ⟨rfl, hW⟩⟩⟩, hS.F ht⟩) hS.2.2 dX2_empty_66
    · skip
      refine lv_aload_n hx hb dX2_empty_29 rfl (lv_at hl 0 rfl) ?_
      refine lv_iload_n hx hb dX2_empty_30 rfl (lv_at hl 1 rfl) ?_
      refine rc_V (W.runV (As := [.int (iI (b))]) (rest := []) ⟨hx, hb, hml, hown, hts⟩ (mm_arrives l D cA A o ad (va_up (F) 0 (0)) G N X Z K hKb hF hG hN hX hZ b (by omega)) (cwV 1 hts (lw_V q1210 q1212 qs35 q62 q1213) rfl rfl rfl (by decide +kernel) ⟨Nat.le_of_ble_eq_true rfl, Nat.le_of_ble_eq_true rfl⟩) (preV hK hW.1 rfl hW) rfl rfl hl.1 rfl (lv_room (Nat.le_of_ble_eq_true rfl)) dX2_empty_31 ⟨Nat.le_of_ble_eq_true rfl, Nat.le_of_ble_eq_true rfl⟩) ?_
      have b5 : -1 ≤ arrN N b ∧ arrN N b ≤ 1739 := arrN_le hN _
      refine lv_iconst (v := iI (-1)) hx hb dX2_empty_34 rfl ?_
      refine ri_icmp_eq (tgt := 65) hx hb (by unfold inR; omega) (by unfold inR; omega) dX2_empty_35 (by decide) (fun h6 => ?_) (fun h6 => ?_)
      · skip
        refine lv_iconst (v := iI (0)) hx hb dX2_empty_65 rfl ?_
        exact W.zret hx hb hr (by rfl) (fun t ht hWm => ⟨⟨_, rfl, by rw [ht]; exact ⟨fun q => absurd q (by unfold okEmpty; omega), fun _ => ⟨rfl, hW⟩⟩⟩, hS.F ht⟩) hS.2.2 dX2_empty_66
      · skip
        refine lv_aload_n hx hb dX2_empty_38 rfl (lv_at hl 0 rfl) ?_
        refine lv_iload_n hx hb dX2_empty_39 rfl (lv_at hl 1 rfl) ?_
        refine rc_V (W.runV (As := [.int (iI (b))]) (rest := []) ⟨hx, hb, hml, hown, hts⟩ (mm_arrives l D cA A o ad (va_up (F) 0 (0)) G N X Z K hKb hF hG hN hX hZ b (by omega)) (cwV 1 hts (lw_V q1210 q1212 qs35 q62 q1213) rfl rfl rfl (by decide +kernel) ⟨Nat.le_of_ble_eq_true rfl, Nat.le_of_ble_eq_true rfl⟩) (preV hK hW.1 rfl hW) rfl rfl hl.1 rfl (lv_room (Nat.le_of_ble_eq_true rfl)) dX2_empty_40 ⟨Nat.le_of_ble_eq_true rfl, Nat.le_of_ble_eq_true rfl⟩) ?_
        refine lv_aload_n hx hb dX2_empty_43 rfl (lv_at hl 0 rfl) ?_
        refine m_get hx hb hts hown hK hW 1 (by decide) q975 rfl (v := .int (iI (F 1))) rfl dX2_empty_44 ?_
        have b7 : F 1 ≤ 1439 := hF 1
        refine ri_icmp_gt (tgt := 65) hx hb (by unfold inR; omega) (by unfold inR; omega) dX2_empty_47 (by decide) (fun h8 => ?_) (fun h8 => ?_)
        · skip
          refine lv_iconst (v := iI (0)) hx hb dX2_empty_65 rfl ?_
          exact W.zret hx hb hr (by rfl) (fun t ht hWm => ⟨⟨_, rfl, by rw [ht]; exact ⟨fun q => absurd q (by unfold okEmpty; omega), fun _ => ⟨rfl, hW⟩⟩⟩, hS.F ht⟩) hS.2.2 dX2_empty_66
        · skip
          refine lv_iload_n hx hb dX2_empty_50 rfl (lv_at hl 2 rfl) ?_
          refine lv_aload_n hx hb dX2_empty_51 rfl (lv_at hl 0 rfl) ?_
          refine m_get hx hb hts hown hK hW 1 (by decide) q975 rfl (v := .int (iI (F 1))) rfl dX2_empty_52 ?_
          refine ri_icmp_lt (tgt := 65) hx hb (by unfold inR; omega) (by unfold inR; omega) dX2_empty_55 (by decide) (fun h9 => ?_) (fun h9 => ?_)
          · skip
            refine lv_iconst (v := iI (0)) hx hb dX2_empty_65 rfl ?_
            exact W.zret hx hb hr (by rfl) (fun t ht hWm => ⟨⟨_, rfl, by rw [ht]; exact ⟨fun q => absurd q (by unfold okEmpty; omega), fun _ => ⟨rfl, hW⟩⟩⟩, hS.F ht⟩) hS.2.2 dX2_empty_66
          · skip
            refine lv_iload_n hx hb dX2_empty_58 rfl (lv_at hl 2 rfl) ?_
            refine lv_sipush (v := iI (1439)) hx hb dX2_empty_59 (by decide) ?_
            refine ri_icmp_le (tgt := 67) hx hb (by unfold inR; omega) (by unfold inR; omega) dX2_empty_62 (by decide) (fun h10 => ?_) (fun h10 => ?_)
            · skip
              refine lv_aload_n hx hb dX2_empty_67 rfl (lv_at hl 0 rfl) ?_
              refine m_get hx hb hts hown hK hW 21 (by decide) q995 rfl (v := .ref (ad 21)) rfl dX2_empty_68 ?_
              refine lv_iload_n hx hb dX2_empty_71 rfl (lv_at hl 1 rfl) ?_
              refine lv_iconst (v := iI (1)) hx hb dX2_empty_72 rfl ?_
              refine m_stZ hx hb hK hW hS 21 (by unfold isA; omega) (by omega) rfl (by omega) (b) (by omega) (by show _ < 60; omega) (1) (by omega) dX2_empty_73 (fun H locs hW hS => ?_)
              have hN : NB (up2 (N) 21 (b) (1)) := hN.up (by show 1 ≤ 1; omega)
              refine lv_aload_n hx hb dX2_empty_74 rfl (lv_at hl 0 rfl) ?_
              refine m_get hx hb hts hown hK hW 20 (by decide) q994 rfl (v := .ref (ad 20)) rfl dX2_empty_75 ?_
              refine lv_iload_n hx hb dX2_empty_78 rfl (lv_at hl 1 rfl) ?_
              refine lv_iload_n hx hb dX2_empty_79 rfl (lv_at hl 2 rfl) ?_
              refine m_st hx hb hK hW hS 20 (by unfold isA; omega) (by omega) rfl (b) (by omega) (by show _ < 60; omega) (r.toNat) (by omega) dX2_empty_80 (fun H locs hW hS => ?_)
              have hN : NB (up2 (up2 (N) 21 (b) (1)) 20 (b) (r.toNat)) := hN.up (by show r.toNat ≤ 1439; omega)
              refine lv_iconst (v := iI (1)) hx hb dX2_empty_81 rfl ?_
              exact W.zret hx hb hr (by rfl) (fun t ht hWm => ⟨⟨_, rfl, by rw [ht]; exact ⟨fun _ => ⟨rfl, hW⟩, fun q => absurd (by unfold okEmpty; omega) q⟩⟩, hS.F ht⟩) hS.2.2 dX2_empty_82
            · skip
              refine lv_iconst (v := iI (0)) hx hb dX2_empty_65 rfl ?_
              exact W.zret hx hb hr (by rfl) (fun t ht hWm => ⟨⟨_, rfl, by rw [ht]; exact ⟨fun q => absurd q (by unfold okEmpty; omega), fun _ => ⟨rfl, hW⟩⟩⟩, hS.F ht⟩) hS.2.2 dX2_empty_66
  · skip
    exfalso; omega

set_option maxHeartbeats 4000000 in
set_option maxRecDepth 100000 in
theorem mm_empty_x (l : Launch) (D : va_G) (cA : Nat → ClassId) (A : Nat → Prop) (o : Nat) (ad : Nat → Nat) (F G : Nat → Nat) (N X : Nat → Nat → Nat) (Z : Nat → Int) (K : Nat) (hKb : K ≤ 1000000) (hF : FB F) (hG : GB G) (hN : NB N) (hX : XB X) (hZ : ZB K Z) (b r : Int) (q_b : inR b) (q_r : inR r) (hbad : ¬ ∃ a : Nat, b = a ∧ a < F 4) : Met l yX2_empty (ws_ yX2_empty cX2_empty 3 (some .boolean)) ({ frames := 2, cells := 0, slots := 0, locals := 51 }) (Pk D cA [.ref o, .int (iI (b)), .int (iI (r))] (MW D cA A o ad F G N X Z)) (Qi (fun z H' => MW D cA A o ad (va_up (va_up F 0 0) 0 1) G N X Z H') A) 0 0 (A) := by
  refine Met.ofW (cc := cX2_empty) (maxL := 3) (ret := (some .boolean)) (by decide) rfl ?_
  intro p e s m args below meth c s₁ B hml hv
  obtain ⟨rfl, hK, hW⟩ := hv
  have hx := B.exec
  have hb := B.bytes
  have hr := B.returns
  have hts := atoms_spec (ws := ws_ yX2_empty cX2_empty 3 (some .boolean)) B.pre
  have hts : ∀ w ∈ lw_all, w.before _ s = true := fun w h => hts w (List.mem_cons_of_mem _ h)
  have hown : s.vm.findClass RX2 = some m.cls := findClass_of_methodNamed B.named
  have hlocks := B.notSynchronized
  have hl := lv_entry ([.ref o, .int (iI (b)), .int (iI (r))]) (n := 3) (Nat.le_of_ble_eq_true rfl)
  rw [lg_entry_eq]
  generalize (lg_sl ([.ref o, .int (iI (b)), .int (iI (r))]) ++ List.replicate (3 - (lg_sl ([.ref o, .int (iI (b)), .int (iI (r))])).length) Slot.unset).toArray = ls at hl ⊢
  have hl : lv_has ls 3 [(0, .ref o), (1, .int (iI (b))), (2, .int (iI (r)))] := hl
  have hS : va_S A s.heap s.heap [] := va_S.rf
  have q_b1 := q_b
  unfold inR at q_b1
  have q_r1 := q_r
  unfold inR at q_r1
  have hF4 : F 4 ≤ 60 := hF 4
  refine lv_aload_n hx hb dX2_empty_0 rfl (lv_at hl 0 rfl) ?_
  refine lv_iconst (v := iI (0)) hx hb dX2_empty_1 rfl ?_
  refine m_put hx hb hts hown hK hW hS 0 (by decide) q974 rfl rfl rfl (0) rfl dX2_empty_2 (fun H locs hW hS => ?_)
  have hF : FB (va_up (F) 0 (0)) := hF.up (by show 0 ≤ 2; omega)
  have e1 : va_up F 0 0 1 = F 1 := rfl
  have e2 : va_up F 0 0 2 = F 2 := rfl
  have e3 : va_up F 0 0 3 = F 3 := rfl
  have e4 : va_up F 0 0 4 = F 4 := rfl
  have e5 : va_up F 0 0 5 = F 5 := rfl
  refine lv_aload_n hx hb dX2_empty_5 rfl (lv_at hl 0 rfl) ?_
  refine lv_iload_n hx hb dX2_empty_6 rfl (lv_at hl 1 rfl) ?_
  refine rc_V (W.runV (As := [.int (iI (b))]) (rest := []) ⟨hx, hb, hml, hown, hts⟩ (mm_isBox l D cA A o ad (va_up (F) 0 (0)) G N X Z K hKb hF hG hN hX hZ b (by unfold inR; omega)) (cwV 1 hts (lw_V q1206 q1208 qs34 q62 q1209) rfl rfl rfl (by decide +kernel) ⟨Nat.le_of_ble_eq_true rfl, Nat.le_of_ble_eq_true rfl⟩) (preV hK hW.1 rfl hW) rfl rfl hl.1 rfl (lv_room (Nat.le_of_ble_eq_true rfl)) dX2_empty_7 ⟨Nat.le_of_ble_eq_true rfl, Nat.le_of_ble_eq_true rfl⟩) ?_
  rw [if_neg (show ¬ (0 ≤ (b : Int) ∧ (b : Int) < ((va_up (F) 0 (0)) 4 : Nat)) from fun q => hbad ⟨b.toNat, by omega, by omega⟩)]
  refine ri_if_ne (tgt := 20) hx hb (by unfold inR; omega) dX2_empty_10 (by decide) (fun h2 => ?_) (fun h2 => ?_)
  · skip
    exfalso; omega
  · skip
    refine lv_aload_n hx hb dX2_empty_13 rfl (lv_at hl 0 rfl) ?_
    refine rc_I (W.runV (As := []) (rest := []) ⟨hx, hb, hml, hown, hts⟩ (mm_fail l D cA A o ad (va_up (F) 0 (0)) G N X Z K hKb hF hG hN hX hZ  ) (cwV 0 hts (lw_V q1110 q1112 qs17 q62 q1113) rfl rfl rfl (by decide +kernel) ⟨Nat.le_of_ble_eq_true rfl, Nat.le_of_ble_eq_true rfl⟩) (preV hK hW.1 rfl hW) rfl rfl hl.1 rfl (lv_room (Nat.le_of_ble_eq_true rfl)) dX2_empty_14 ⟨Nat.le_of_ble_eq_true rfl, Nat.le_of_ble_eq_true rfl⟩) hS (fun _ _ h => h) (fun _ h => h) (fun z H locs hq hS hz hk => ?_)
    obtain ⟨rfl, hW⟩ := hq
    refine lv_pop hx hb dX2_empty_17 rfl ?_
    refine lv_iconst (v := iI (0)) hx hb dX2_empty_18 rfl ?_
    exact W.zret hx hb hr (by rfl) (fun t ht hWm => ⟨⟨_, rfl, by rw [ht]; exact hW⟩, hS.F ht⟩) hS.2.2 dX2_empty_19
