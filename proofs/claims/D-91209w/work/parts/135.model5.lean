set_option maxRecDepth 100000
set_option maxHeartbeats 4000000 in
set_option maxRecDepth 100000 in
theorem mm_load0 (l : Launch) (D : va_G) (cA : Nat → ClassId) (A : Nat → Prop) (o : Nat) (ad : Nat → Nat) (F G : Nat → Nat) (N X : Nat → Nat → Nat) (Z : Nat → Int) (K : Nat) (hKb : K ≤ 1000000) (hF : FB F) (hG : GB G) (hN : NB N) (hX : XB X) (hZ : ZB K Z) (w a : Nat) (v : Int) (hw : w < 120) (ha : a ≤ N 24 w) (hv1 : -1 ≤ v) (hv2 : v ≤ 1) (hK3 : K + 3 ≤ 1000000) : Met l yX2_load0 (ws_ yX2_load0 cX2_load0 7 none) ({ frames := 2, cells := 0, slots := 0, locals := 51 }) (Pk D cA [.ref o, .int (iI (w)), .int (iI (a)), .int (iI (v))] (MW D cA A o ad F G N X Z)) (Qn (fun H' => MW D cA A o ad F G N X (ldZ N w v a (N 24 w - a) Z) H') A) 0 0 (A) := by
  refine Met.ofW (cc := cX2_load0) (maxL := 7) (ret := none) (by decide) rfl ?_
  intro p e s m args below meth c s₁ B hml hv
  obtain ⟨rfl, hK, hW⟩ := hv
  have hx := B.exec
  have hb := B.bytes
  have hr := B.returns
  have hts := atoms_spec (ws := ws_ yX2_load0 cX2_load0 7 none) B.pre
  have hts : ∀ w ∈ lw_all, w.before _ s = true := fun w h => hts w (List.mem_cons_of_mem _ h)
  have hown : s.vm.findClass RX2 = some m.cls := findClass_of_methodNamed B.named
  have hlocks := B.notSynchronized
  have hl := lv_entry ([.ref o, .int (iI (w)), .int (iI (a)), .int (iI (v))]) (n := 7) (Nat.le_of_ble_eq_true rfl)
  rw [lg_entry_eq]
  generalize (lg_sl ([.ref o, .int (iI (w)), .int (iI (a)), .int (iI (v))]) ++ List.replicate (7 - (lg_sl ([.ref o, .int (iI (w)), .int (iI (a)), .int (iI (v))])).length) Slot.unset).toArray = ls at hl ⊢
  have hl : lv_has ls 7 [(0, .ref o), (1, .int (iI (w))), (2, .int (iI (a))), (3, .int (iI (v)))] := hl
  have hS : va_S A s.heap s.heap [] := va_S.rf
  have hm3 : N 24 w ≤ 3 := hN 24 w
  refine lv_iload_n hx hb dX2_load0_0 rfl (lv_at hl 2 rfl) ?_
  refine lv_istore (lv' := [(4, .int (iI (a))), (0, .ref o), (1, .int (iI (w))), (2, .int (iI (a))), (3, .int (iI (v)))]) hx hb dX2_load0_1 hl (by decide) rfl (fun ls hl => ?_)
  have lp3 : ∀ (fuel : Nat) (n : Nat) (hn : a + n ≤ N 24 w), N 24 w - (a + n) < fuel → ∀ (H : Heap) (locs : List Loc) (ls : Array Slot), MW D cA A o ad F G N X (ldZ N w v a n Z) H → va_S A s.heap H locs → lv_has ls 7 [(4, .int (iI ((a + n : Nat)))), (0, .ref o), (1, .int (iI (w))), (2, .int (iI (a))), (3, .int (iI (v)))] → W p l e (headSpec (ws_ yX2_load0 cX2_load0 7 none) ({ frames := 2, cells := 0, slots := 0, locals := 51 })).room s m ([.ref o, .int (iI (w)), .int (iI (a)), .int (iI (v))] : List Value).toArray below meth c H locs 0 0 (MQ below (Qn (fun H' => MW D cA A o ad F G N X (ldZ N w v a (N 24 w - a) Z) H') A) ([.ref o, .int (iI (w)), .int (iI (a)), .int (iI (v))] : List Value).toArray s 0 0 (A)) (F0 m 3 ls []) := by
    intro fuel
    induction fuel with
    | zero => intro n hn hm; exact absurd hm (Nat.not_lt_zero _)
    | succ fuel ih3 =>
      intro n hn hm3 H locs ls hW hS hl
      have hm3 : N 24 w ≤ 3 := hN 24 w
      have hZn := ldZ_B (N := N) (w := w) (v := v) hv1 hv2 (a := a) n Z hZ
      refine lv_iload hx hb dX2_load0_3 (lv_at hl 0 rfl) ?_
      refine lv_aload_n hx hb dX2_load0_5 rfl (lv_at hl 1 rfl) ?_
      refine m_get hx hb hts hown hK hW 24 (by decide) q998 rfl (v := .ref (ad 24)) rfl dX2_load0_6 ?_
      refine lv_iload_n hx hb dX2_load0_9 rfl (lv_at hl 2 rfl) ?_
      refine h_iald hx hb hK hW.a24 (w) (by omega) (by omega) (by decide) dX2_load0_10 ?_
      have b1 : N 24 (w) ≤ 3 := hN 24 (w)
      refine ri_icmp_ge (tgt := 76) hx hb (by unfold inR; omega) (by unfold inR; omega) dX2_load0_11 (by decide) (fun h2 => ?_) (fun h2 => ?_)
      · skip
        exact W.vret hx hb hr (fun t ht hWm => ⟨⟨rfl, by rw [ht]; exact (by rw [show N 24 w - a = n by omega]; exact hW)⟩, hS.F ht⟩) hS.2.2 dX2_load0_76
      · skip
        refine lv_iload_n hx hb dX2_load0_14 rfl (lv_at hl 2 rfl) ?_
        refine lv_iload hx hb dX2_load0_15 (lv_at hl 0 rfl) ?_
        refine rc_V (W.runS (As := [.int (iI (w)), .int (iI ((a + n : Nat)))]) (rest := []) ⟨hx, hb, hml, hown, hts⟩ (mm_legAt l D cA w ((a + n : Nat)) ) (va_cwS 2 hts (lw_S q1163 q1164 q62 q1165) rfl rfl rfl (by decide +kernel) ⟨Nat.le_of_ble_eq_true rfl, Nat.le_of_ble_eq_true rfl⟩) (preS hK (B := fun _ => True) trivial) rfl rfl hl.1 rfl (lv_room (Nat.le_of_ble_eq_true rfl)) dX2_load0_17 ⟨Nat.le_of_ble_eq_true rfl, Nat.le_of_ble_eq_true rfl⟩) ?_
        refine ri_top (b := ((3 * w + (a + n)) : Nat)) (by omega) ?_
        refine lv_istore (lv' := [(5, .int (iI (((3 * w + (a + n)) : Nat)))), (4, .int (iI ((a + n : Nat)))), (0, .ref o), (1, .int (iI (w))), (2, .int (iI (a))), (3, .int (iI (v)))]) hx hb dX2_load0_20 hl (by decide) rfl (fun ls hl => ?_)
        refine lv_aload_n hx hb dX2_load0_22 rfl (lv_at hl 2 rfl) ?_
        refine m_get hx hb hts hown hK hW 28 (by decide) q1002 rfl (v := .ref (ad 28)) rfl dX2_load0_23 ?_
        refine lv_iload hx hb dX2_load0_26 (lv_at hl 0 rfl) ?_
        refine h_iald hx hb hK hW.a28 (((3 * w + (a + n)) : Nat)) (by omega) (by omega) (by decide) dX2_load0_28 ?_
        have b3 : N 28 (((3 * w + (a + n)) : Nat)) ≤ 9 := hN 28 (((3 * w + (a + n)) : Nat))
        refine lv_istore (lv' := [(6, .int (iI (N 28 (((3 * w + (a + n)) : Nat))))), (5, .int (iI (((3 * w + (a + n)) : Nat)))), (4, .int (iI ((a + n : Nat)))), (0, .ref o), (1, .int (iI (w))), (2, .int (iI (a))), (3, .int (iI (v)))]) hx hb dX2_load0_29 hl (by decide) rfl (fun ls hl => ?_)
        have lp31 : ∀ (fuel : Nat) (k : Nat) (hk1 : N 28 (3 * w + (a + n)) ≤ k) (hk2 : k = N 28 (3 * w + (a + n)) ∨ k ≤ N 29 (3 * w + (a + n))) (hk9 : k ≤ 9), 10 - k < fuel → ∀ (H : Heap) (locs : List Loc) (ls : Array Slot), MW D cA A o ad F G N X (adZ (ldZ N w v a n Z) v (10 * N 27 (3 * w + (a + n)) + N 28 (3 * w + (a + n))) (10 * N 27 (3 * w + (a + n)) + k)) H → va_S A s.heap H locs → lv_has ls 7 [(6, .int (iI (k))), (5, .int (iI (((3 * w + (a + n)) : Nat)))), (4, .int (iI ((a + n : Nat)))), (0, .ref o), (1, .int (iI (w))), (2, .int (iI (a))), (3, .int (iI (v)))] → W p l e (headSpec (ws_ yX2_load0 cX2_load0 7 none) ({ frames := 2, cells := 0, slots := 0, locals := 51 })).room s m ([.ref o, .int (iI (w)), .int (iI (a)), .int (iI (v))] : List Value).toArray below meth c H locs 0 0 (MQ below (Qn (fun H' => MW D cA A o ad F G N X (ldZ N w v a (N 24 w - a) Z) H') A) ([.ref o, .int (iI (w)), .int (iI (a)), .int (iI (v))] : List Value).toArray s 0 0 (A)) (F0 m 31 ls []) := by
          intro fuel
          induction fuel with
          | zero => intro k hk1 hk2 hk9 hm; exact absurd hm (Nat.not_lt_zero _)
          | succ fuel ih31 =>
            intro k hk1 hk2 hk9 hm31 H locs ls hW hS hl
            have hb29 : N 29 (3 * w + (a + n)) ≤ 9 := hN 29 _
            have hb27 : N 27 (3 * w + (a + n)) ≤ 15 := hN 27 _
            refine lv_iload hx hb dX2_load0_31 (lv_at hl 0 rfl) ?_
            refine lv_aload_n hx hb dX2_load0_33 rfl (lv_at hl 3 rfl) ?_
            refine m_get hx hb hts hown hK hW 29 (by decide) q1003 rfl (v := .ref (ad 29)) rfl dX2_load0_34 ?_
            refine lv_iload hx hb dX2_load0_37 (lv_at hl 1 rfl) ?_
            refine h_iald hx hb hK hW.a29 (((3 * w + (a + n)) : Nat)) (by omega) (by omega) (by decide) dX2_load0_39 ?_
            have b4 : N 29 (((3 * w + (a + n)) : Nat)) ≤ 9 := hN 29 (((3 * w + (a + n)) : Nat))
            refine ri_icmp_ge (tgt := 70) hx hb (by unfold inR; omega) (by unfold inR; omega) dX2_load0_40 (by decide) (fun h5 => ?_) (fun h5 => ?_)
            · skip
              refine lv_iinc (v := iI ((a + (n + 1) : Nat))) (lv' := [(4, .int (iI ((a + (n + 1) : Nat)))), (6, .int (iI (k))), (5, .int (iI (((3 * w + (a + n)) : Nat)))), (0, .ref o), (1, .int (iI (w))), (2, .int (iI (a))), (3, .int (iI (v)))]) hx hb dX2_load0_70 hl (k := 2) rfl (iI_succ _) (by decide) rfl (fun ls hl => ?_)
              refine lv_goto (tgt := 3) hx hb dX2_load0_73 (by decide) ?_
              have e : adZ (ldZ N w v a n Z) v (10 * N 27 (3 * w + (a + n)) + N 28 (3 * w + (a + n))) (10 * N 27 (3 * w + (a + n)) + k) = ldZ N w v a (n + 1) Z := by
                show _ = adZ (ldZ N w v a n Z) v (10 * N 27 (3 * w + (a + n)) + N 28 (3 * w + (a + n))) (10 * N 27 (3 * w + (a + n)) + N 29 (3 * w + (a + n)))
                rcases hk2 with q | q
                · rw [q, adZ_0, adZ_no _ _ (by omega)]
                · rw [show k = N 29 (3 * w + (a + n)) by omega]
              rw [e] at hW
              exact ih3 (n + 1) (by omega) (by omega) _ _ _ hW hS (lv_sub hl [0, 3, 4, 5, 6] rfl)
            · skip
              refine lv_aload_n hx hb dX2_load0_43 rfl (lv_at hl 3 rfl) ?_
              refine m_get hx hb hts hown hK hW 11 (by decide) q985 rfl (v := .ref (ad 11)) rfl dX2_load0_44 ?_
              refine lv_aload_n hx hb dX2_load0_47 rfl (lv_at hl 3 rfl) ?_
              refine m_get hx hb hts hown hK hW 27 (by decide) q1001 rfl (v := .ref (ad 27)) rfl dX2_load0_48 ?_
              refine lv_iload hx hb dX2_load0_51 (lv_at hl 1 rfl) ?_
              refine h_iald hx hb hK hW.a27 (((3 * w + (a + n)) : Nat)) (by omega) (by omega) (by decide) dX2_load0_53 ?_
              have b6 : N 27 (((3 * w + (a + n)) : Nat)) ≤ 15 := hN 27 (((3 * w + (a + n)) : Nat))
              refine lv_iload hx hb dX2_load0_54 (lv_at hl 0 rfl) ?_
              refine rc_V (W.runS (As := [.int (iI (N 27 (((3 * w + (a + n)) : Nat)))), .int (iI (k))]) (rest := [.ref (ad 11)]) ⟨hx, hb, hml, hown, hts⟩ (mm_node l D cA (N 27 (((3 * w + (a + n)) : Nat))) k ) (va_cwS 2 hts (lw_S q1114 q1115 q62 q1116) rfl rfl rfl (by decide +kernel) ⟨Nat.le_of_ble_eq_true rfl, Nat.le_of_ble_eq_true rfl⟩) (preS hK (B := fun _ => True) trivial) rfl rfl hl.1 rfl (lv_room (Nat.le_of_ble_eq_true rfl)) dX2_load0_56 ⟨Nat.le_of_ble_eq_true rfl, Nat.le_of_ble_eq_true rfl⟩) ?_
              refine ri_top (b := (10 * N 27 (3 * w + (a + n)) + k : Nat)) (by omega) ?_
              refine lv_dup2_11 hx hb dX2_load0_59 rfl rfl ?_
              refine h_iald hx hb hK hW.a11 ((10 * N 27 (3 * w + (a + n)) + k : Nat)) (by omega) (by omega) (by decide) dX2_load0_60 ?_
              refine ri_top (b := ldZ N w v a n Z (10 * N 27 (3 * w + (a + n)) + k)) (adZ_at _ _ _ _) ?_
              refine lv_iload_n hx hb dX2_load0_61 rfl (lv_at hl 6 rfl) ?_
              refine ri_iadd hx hb dX2_load0_62 ?_
              refine m_st11 hx hb hK hW hS ((10 * N 27 (3 * w + (a + n)) + k : Nat)) (by omega) (by omega) dX2_load0_63 (fun H locs hW hS => ?_)
              rw [adZ_up _ _ (by omega)] at hW
              refine lv_iinc (v := iI ((k + 1 : Nat))) (lv' := [(6, .int (iI ((k + 1 : Nat)))), (5, .int (iI (((3 * w + (a + n)) : Nat)))), (4, .int (iI ((a + n : Nat)))), (0, .ref o), (1, .int (iI (w))), (2, .int (iI (a))), (3, .int (iI (v)))]) hx hb dX2_load0_64 hl (k := 0) rfl (iI_succ _) (by decide) rfl (fun ls hl => ?_)
              refine lv_goto (tgt := 31) hx hb dX2_load0_67 (by decide) ?_
              exact ih31 (k + 1) (by omega) (Or.inr (by omega)) (by omega) (by omega) _ _ _ hW hS (lv_sub hl [0, 1, 2, 3, 4, 5, 6] rfl)
        rw [← adZ_0 (ldZ N w v a n Z) v (10 * N 27 (3 * w + (a + n)) + N 28 (3 * w + (a + n)))] at hW
        exact lp31 _ (N 28 (3 * w + (a + n))) (Nat.le_refl _) (Or.inl rfl) (by omega) (Nat.lt_succ_self _) _ _ _ hW hS (lv_sub hl [0, 1, 2, 3, 4, 5, 6] rfl)
  exact lp3 _ (0) (by omega) (Nat.lt_succ_self _) _ _ _ hW hS (lv_sub hl [0, 1, 2, 3, 4] rfl)

set_option maxHeartbeats 4000000 in
set_option maxRecDepth 100000 in
theorem mm_lookLeg (l : Launch) (D : va_G) (cA : Nat → ClassId) (A : Nat → Prop) (o : Nat) (ad : Nat → Nat) (F G : Nat → Nat) (N X : Nat → Nat → Nat) (Z : Nat → Int) (K : Nat) (hKb : K ≤ 1000000) (hF : FB F) (hG : GB G) (hN : NB N) (hX : XB X) (hZ : ZB K Z) (lv t on off : Nat) (hl1 : 1 ≤ lv) (hl3 : lv ≤ 3) (ht16 : t < 16) (hon : on < 10) (hoff : off < 10) : Met l yX2_lookLeg (ws_ yX2_lookLeg cX2_lookLeg 8 none) ({ frames := 2, cells := 0, slots := 0, locals := 51 }) (Pk D cA [.ref o, .int (iI (lv)), .int (iI (t)), .int (iI (on)), .int (iI (off))] (MW D cA A o ad F G N X Z)) (Qn (fun H' => MW D cA A o ad F (lkG X G (160 * (lv - 1) + (10 * t + off)) t on off) N X Z H') A) 0 0 (A) := by
  refine Met.ofW (cc := cX2_lookLeg) (maxL := 8) (ret := none) (by decide) rfl ?_
  intro p e s m args below meth c s₁ B hml hv
  obtain ⟨rfl, hK, hW⟩ := hv
  have hx := B.exec
  have hb := B.bytes
  have hr := B.returns
  have hts := atoms_spec (ws := ws_ yX2_lookLeg cX2_lookLeg 8 none) B.pre
  have hts : ∀ w ∈ lw_all, w.before _ s = true := fun w h => hts w (List.mem_cons_of_mem _ h)
  have hown : s.vm.findClass RX2 = some m.cls := findClass_of_methodNamed B.named
  have hlocks := B.notSynchronized
  have hl := lv_entry ([.ref o, .int (iI (lv)), .int (iI (t)), .int (iI (on)), .int (iI (off))]) (n := 8) (Nat.le_of_ble_eq_true rfl)
  rw [lg_entry_eq]
  generalize (lg_sl ([.ref o, .int (iI (lv)), .int (iI (t)), .int (iI (on)), .int (iI (off))]) ++ List.replicate (8 - (lg_sl ([.ref o, .int (iI (lv)), .int (iI (t)), .int (iI (on)), .int (iI (off))])).length) Slot.unset).toArray = ls at hl ⊢
  have hl : lv_has ls 8 [(0, .ref o), (1, .int (iI (lv))), (2, .int (iI (t))), (3, .int (iI (on))), (4, .int (iI (off)))] := hl
  have hS : va_S A s.heap s.heap [] := va_S.rf
  refine lv_sipush (v := iI (160)) hx hb dX2_lookLeg_0 (by decide) ?_
  refine lv_iload_n hx hb dX2_lookLeg_3 rfl (lv_at hl 1 rfl) ?_
  refine lv_iconst (v := iI (1)) hx hb dX2_lookLeg_4 rfl ?_
  refine ri_isub hx hb dX2_lookLeg_5 ?_
  refine ri_imul hx hb dX2_lookLeg_6 ?_
  refine ri_top (b := (160 * (lv - 1) : Nat)) (by omega) ?_
  refine lv_iload_n hx hb dX2_lookLeg_7 rfl (lv_at hl 2 rfl) ?_
  refine lv_iload hx hb dX2_lookLeg_8 (lv_at hl 4 rfl) ?_
  refine rc_V (W.runS (As := [.int (iI (t)), .int (iI (off))]) (rest := [.int (iI ((160 * (lv - 1) : Nat)))]) ⟨hx, hb, hml, hown, hts⟩ (mm_node l D cA t off ) (va_cwS 2 hts (lw_S q1114 q1115 q62 q1116) rfl rfl rfl (by decide +kernel) ⟨Nat.le_of_ble_eq_true rfl, Nat.le_of_ble_eq_true rfl⟩) (preS hK (B := fun _ => True) trivial) rfl rfl hl.1 rfl (lv_room (Nat.le_of_ble_eq_true rfl)) dX2_lookLeg_10 ⟨Nat.le_of_ble_eq_true rfl, Nat.le_of_ble_eq_true rfl⟩) ?_
  refine ri_iadd hx hb dX2_lookLeg_13 ?_
  refine ri_top (b := ((160 * (lv - 1) + (10 * t + off)) : Nat)) (by omega) ?_
  refine lv_istore (lv' := [(5, .int (iI (((160 * (lv - 1) + (10 * t + off)) : Nat)))), (0, .ref o), (1, .int (iI (lv))), (2, .int (iI (t))), (3, .int (iI (on))), (4, .int (iI (off)))]) hx hb dX2_lookLeg_14 hl (by decide) rfl (fun ls hl => ?_)
  refine lv_aload_n hx hb dX2_lookLeg_16 rfl (lv_at hl 1 rfl) ?_
  refine m_get hx hb hts hown hK hW 30 (by decide) q1004 rfl (v := .ref (ad 30)) rfl dX2_lookLeg_17 ?_
  refine lv_iload hx hb dX2_lookLeg_20 (lv_at hl 0 rfl) ?_
  refine h_iald hx hb hK hW.a30 (((160 * (lv - 1) + (10 * t + off)) : Nat)) (by omega) (by omega) (by decide) dX2_lookLeg_22 ?_
  have b1 : X 30 (((160 * (lv - 1) + (10 * t + off)) : Nat)) ≤ 268435456 := hX 30 (((160 * (lv - 1) + (10 * t + off)) : Nat))
  refine lv_istore (lv' := [(6, .int (iI (X 30 (((160 * (lv - 1) + (10 * t + off)) : Nat))))), (5, .int (iI (((160 * (lv - 1) + (10 * t + off)) : Nat)))), (0, .ref o), (1, .int (iI (lv))), (2, .int (iI (t))), (3, .int (iI (on))), (4, .int (iI (off)))]) hx hb dX2_lookLeg_23 hl (by decide) rfl (fun ls hl => ?_)
  refine lv_aload_n hx hb dX2_lookLeg_25 rfl (lv_at hl 2 rfl) ?_
  refine m_get hx hb hts hown hK hW 31 (by decide) q1005 rfl (v := .ref (ad 31)) rfl dX2_lookLeg_26 ?_
  refine lv_iload hx hb dX2_lookLeg_29 (lv_at hl 1 rfl) ?_
  refine h_iald hx hb hK hW.a31 (((160 * (lv - 1) + (10 * t + off)) : Nat)) (by omega) (by omega) (by decide) dX2_lookLeg_31 ?_
  have b2 : X 31 (((160 * (lv - 1) + (10 * t + off)) : Nat)) ≤ (((160 * (lv - 1) + (10 * t + off)) : Nat)) / 160 := hX 31 (((160 * (lv - 1) + (10 * t + off)) : Nat))
  refine lv_iconst (v := iI (1)) hx hb dX2_lookLeg_32 rfl ?_
  refine ri_iadd hx hb dX2_lookLeg_33 ?_
  refine lv_istore (lv' := [(7, .int (iI ((X 31 (((160 * (lv - 1) + (10 * t + off)) : Nat))) + 1))), (6, .int (iI (X 30 (((160 * (lv - 1) + (10 * t + off)) : Nat))))), (5, .int (iI (((160 * (lv - 1) + (10 * t + off)) : Nat)))), (0, .ref o), (1, .int (iI (lv))), (2, .int (iI (t))), (3, .int (iI (on))), (4, .int (iI (off)))]) hx hb dX2_lookLeg_34 hl (by decide) rfl (fun ls hl => ?_)
  refine lv_iload hx hb dX2_lookLeg_36 (lv_at hl 1 rfl) ?_
  refine lv_ldc (v := iI (268435456)) hx hb hown (show (Cond.constant RX2 153 (iI (268435456))).before _ s = true from hts _ q1154) dX2_lookLeg_38 ?_
  refine ri_icmp_ge (tgt := 70) hx hb (by unfold inR; omega) (by unfold inR; omega) dX2_lookLeg_40 (by decide) (fun h3 => ?_) (fun h3 => ?_)
  · skip
    exact W.vret hx hb hr (fun t ht hWm => ⟨⟨rfl, by rw [ht]; exact (by unfold lkG; rw [if_pos (by omega)]; exact hW)⟩, hS.F ht⟩) hS.2.2 dX2_lookLeg_70
  · skip
    refine lv_iload hx hb dX2_lookLeg_43 (lv_at hl 1 rfl) ?_
    refine lv_aload_n hx hb dX2_lookLeg_45 rfl (lv_at hl 3 rfl) ?_
    refine m_get hx hb hts hown hK hW 32 (by decide) q1006 rfl (v := .int (iI (G 32))) rfl dX2_lookLeg_46 ?_
    have b4 : G 32 ≤ 268435456 := hG 32
    refine ri_icmp_gt (tgt := 70) hx hb (by unfold inR; omega) (by unfold inR; omega) dX2_lookLeg_49 (by decide) (fun h5 => ?_) (fun h5 => ?_)
    · skip
      exact W.vret hx hb hr (fun t ht hWm => ⟨⟨rfl, by rw [ht]; exact (by unfold lkG; rw [if_pos (by omega)]; exact hW)⟩, hS.F ht⟩) hS.2.2 dX2_lookLeg_70
    · skip
      refine lv_iload hx hb dX2_lookLeg_52 (lv_at hl 1 rfl) ?_
      refine lv_aload_n hx hb dX2_lookLeg_54 rfl (lv_at hl 3 rfl) ?_
      refine m_get hx hb hts hown hK hW 32 (by decide) q1006 rfl (v := .int (iI (G 32))) rfl dX2_lookLeg_55 ?_
      refine ri_icmp_ne (tgt := 71) hx hb (by unfold inR; omega) (by unfold inR; omega) dX2_lookLeg_58 (by decide) (fun h6 => ?_) (fun h6 => ?_)
      · skip
        refine lv_aload_n hx hb dX2_lookLeg_71 rfl (lv_at hl 3 rfl) ?_
        refine lv_iload hx hb dX2_lookLeg_72 (lv_at hl 1 rfl) ?_
        refine ri_top (b := ((X 30 (((160 * (lv - 1) + (10 * t + off)) : Nat)) : Nat) : Int)) (by omega) ?_
        refine m_putG hx hb hts hown hK hW hS 32 (by decide) q1006 rfl rfl rfl (X 30 (((160 * (lv - 1) + (10 * t + off)) : Nat))) rfl dX2_lookLeg_74 (fun H locs hW hS => ?_)
        have hG : GB (va_up (G) 32 (X 30 (((160 * (lv - 1) + (10 * t + off)) : Nat)))) := hG.up (by show (X 30 (((160 * (lv - 1) + (10 * t + off)) : Nat))) ≤ 268435456; omega)
        refine lv_aload_n hx hb dX2_lookLeg_77 rfl (lv_at hl 3 rfl) ?_
        refine lv_iload hx hb dX2_lookLeg_78 (lv_at hl 0 rfl) ?_
        refine ri_top (b := (((X 31 (((160 * (lv - 1) + (10 * t + off)) : Nat))) + 1 : Nat) : Int)) (by omega) ?_
        refine m_putG hx hb hts hown hK hW hS 33 (by decide) q1007 rfl rfl rfl ((X 31 (((160 * (lv - 1) + (10 * t + off)) : Nat))) + 1) rfl dX2_lookLeg_80 (fun H locs hW hS => ?_)
        have hG : GB (va_up (va_up (G) 32 (X 30 (((160 * (lv - 1) + (10 * t + off)) : Nat)))) 33 ((X 31 (((160 * (lv - 1) + (10 * t + off)) : Nat))) + 1)) := hG.up (by show ((X 31 (((160 * (lv - 1) + (10 * t + off)) : Nat))) + 1) ≤ 3; omega)
        refine lv_aload_n hx hb dX2_lookLeg_83 rfl (lv_at hl 3 rfl) ?_
        refine lv_iload_n hx hb dX2_lookLeg_84 rfl (lv_at hl 5 rfl) ?_
        refine ri_top (b := ((t + 1 : Nat) : Int) - 1) (by omega) ?_
        refine m_putG hx hb hts hown hK hW hS 34 (by decide) q1008 rfl rfl rfl (t + 1) rfl dX2_lookLeg_85 (fun H locs hW hS => ?_)
        have hG : GB (va_up (va_up (va_up (G) 32 (X 30 (((160 * (lv - 1) + (10 * t + off)) : Nat)))) 33 ((X 31 (((160 * (lv - 1) + (10 * t + off)) : Nat))) + 1)) 34 (t + 1)) := hG.up (by show (t + 1) ≤ 16; omega)
        refine lv_aload_n hx hb dX2_lookLeg_88 rfl (lv_at hl 3 rfl) ?_
        refine lv_iload_n hx hb dX2_lookLeg_89 rfl (lv_at hl 6 rfl) ?_
        refine ri_top (b := ((on : Nat) : Int)) (by omega) ?_
        refine m_putG hx hb hts hown hK hW hS 35 (by decide) q1009 rfl rfl rfl (on) rfl dX2_lookLeg_90 (fun H locs hW hS => ?_)
        have hG : GB (va_up (va_up (va_up (va_up (G) 32 (X 30 (((160 * (lv - 1) + (10 * t + off)) : Nat)))) 33 ((X 31 (((160 * (lv - 1) + (10 * t + off)) : Nat))) + 1)) 34 (t + 1)) 35 (on)) := hG.up (by show on ≤ 9; omega)
        refine lv_aload_n hx hb dX2_lookLeg_93 rfl (lv_at hl 3 rfl) ?_
        refine lv_iload hx hb dX2_lookLeg_94 (lv_at hl 7 rfl) ?_
        refine ri_top (b := ((off : Nat) : Int)) (by omega) ?_
        refine m_putG hx hb hts hown hK hW hS 36 (by decide) q1010 rfl rfl rfl (off) rfl dX2_lookLeg_96 (fun H locs hW hS => ?_)
        have hG : GB (va_up (va_up (va_up (va_up (va_up (G) 32 (X 30 (((160 * (lv - 1) + (10 * t + off)) : Nat)))) 33 ((X 31 (((160 * (lv - 1) + (10 * t + off)) : Nat))) + 1)) 34 (t + 1)) 35 (on)) 36 (off)) := hG.up (by show off ≤ 9; omega)
        exact W.vret hx hb hr (fun t ht hWm => ⟨⟨rfl, by rw [ht]; exact (by unfold lkG; rw [if_neg (by omega)]; exact hW)⟩, hS.F ht⟩) hS.2.2 dX2_lookLeg_99
      · skip
        refine lv_iload hx hb dX2_lookLeg_61 (lv_at hl 0 rfl) ?_
        refine lv_aload_n hx hb dX2_lookLeg_63 rfl (lv_at hl 3 rfl) ?_
        refine m_get hx hb hts hown hK hW 33 (by decide) q1007 rfl (v := .int (iI (G 33))) rfl dX2_lookLeg_64 ?_
        have b7 : G 33 ≤ 3 := hG 33
        refine ri_icmp_lt (tgt := 71) hx hb (by unfold inR; omega) (by unfold inR; omega) dX2_lookLeg_67 (by decide) (fun h8 => ?_) (fun h8 => ?_)
        · skip
          refine lv_aload_n hx hb dX2_lookLeg_71 rfl (lv_at hl 3 rfl) ?_
          refine lv_iload hx hb dX2_lookLeg_72 (lv_at hl 1 rfl) ?_
          refine ri_top (b := ((X 30 (((160 * (lv - 1) + (10 * t + off)) : Nat)) : Nat) : Int)) (by omega) ?_
          refine m_putG hx hb hts hown hK hW hS 32 (by decide) q1006 rfl rfl rfl (X 30 (((160 * (lv - 1) + (10 * t + off)) : Nat))) rfl dX2_lookLeg_74 (fun H locs hW hS => ?_)
          have hG : GB (va_up (G) 32 (X 30 (((160 * (lv - 1) + (10 * t + off)) : Nat)))) := hG.up (by show (X 30 (((160 * (lv - 1) + (10 * t + off)) : Nat))) ≤ 268435456; omega)
          refine lv_aload_n hx hb dX2_lookLeg_77 rfl (lv_at hl 3 rfl) ?_
          refine lv_iload hx hb dX2_lookLeg_78 (lv_at hl 0 rfl) ?_
          refine ri_top (b := (((X 31 (((160 * (lv - 1) + (10 * t + off)) : Nat))) + 1 : Nat) : Int)) (by omega) ?_
          refine m_putG hx hb hts hown hK hW hS 33 (by decide) q1007 rfl rfl rfl ((X 31 (((160 * (lv - 1) + (10 * t + off)) : Nat))) + 1) rfl dX2_lookLeg_80 (fun H locs hW hS => ?_)
          have hG : GB (va_up (va_up (G) 32 (X 30 (((160 * (lv - 1) + (10 * t + off)) : Nat)))) 33 ((X 31 (((160 * (lv - 1) + (10 * t + off)) : Nat))) + 1)) := hG.up (by show ((X 31 (((160 * (lv - 1) + (10 * t + off)) : Nat))) + 1) ≤ 3; omega)
          refine lv_aload_n hx hb dX2_lookLeg_83 rfl (lv_at hl 3 rfl) ?_
          refine lv_iload_n hx hb dX2_lookLeg_84 rfl (lv_at hl 5 rfl) ?_
          refine ri_top (b := ((t + 1 : Nat) : Int) - 1) (by omega) ?_
          refine m_putG hx hb hts hown hK hW hS 34 (by decide) q1008 rfl rfl rfl (t + 1) rfl dX2_lookLeg_85 (fun H locs hW hS => ?_)
          have hG : GB (va_up (va_up (va_up (G) 32 (X 30 (((160 * (lv - 1) + (10 * t + off)) : Nat)))) 33 ((X 31 (((160 * (lv - 1) + (10 * t + off)) : Nat))) + 1)) 34 (t + 1)) := hG.up (by show (t + 1) ≤ 16; omega)
          refine lv_aload_n hx hb dX2_lookLeg_88 rfl (lv_at hl 3 rfl) ?_
          refine lv_iload_n hx hb dX2_lookLeg_89 rfl (lv_at hl 6 rfl) ?_
          refine ri_top (b := ((on : Nat) : Int)) (by omega) ?_
          refine m_putG hx hb hts hown hK hW hS 35 (by decide) q1009 rfl rfl rfl (on) rfl dX2_lookLeg_90 (fun H locs hW hS => ?_)
          have hG : GB (va_up (va_up (va_up (va_up (G) 32 (X 30 (((160 * (lv - 1) + (10 * t + off)) : Nat)))) 33 ((X 31 (((160 * (lv - 1) + (10 * t + off)) : Nat))) + 1)) 34 (t + 1)) 35 (on)) := hG.up (by show on ≤ 9; omega)
          refine lv_aload_n hx hb dX2_lookLeg_93 rfl (lv_at hl 3 rfl) ?_
          refine lv_iload hx hb dX2_lookLeg_94 (lv_at hl 7 rfl) ?_
          refine ri_top (b := ((off : Nat) : Int)) (by omega) ?_
          refine m_putG hx hb hts hown hK hW hS 36 (by decide) q1010 rfl rfl rfl (off) rfl dX2_lookLeg_96 (fun H locs hW hS => ?_)
          have hG : GB (va_up (va_up (va_up (va_up (va_up (G) 32 (X 30 (((160 * (lv - 1) + (10 * t + off)) : Nat)))) 33 ((X 31 (((160 * (lv - 1) + (10 * t + off)) : Nat))) + 1)) 34 (t + 1)) 35 (on)) 36 (off)) := hG.up (by show off ≤ 9; omega)
          exact W.vret hx hb hr (fun t ht hWm => ⟨⟨rfl, by rw [ht]; exact (by unfold lkG; rw [if_neg (by omega)]; exact hW)⟩, hS.F ht⟩) hS.2.2 dX2_lookLeg_99
        · skip
          exact W.vret hx hb hr (fun t ht hWm => ⟨⟨rfl, by rw [ht]; exact (by unfold lkG; rw [if_pos (by omega)]; exact hW)⟩, hS.F ht⟩) hS.2.2 dX2_lookLeg_70

set_option maxHeartbeats 4000000 in
set_option maxRecDepth 100000 in
theorem mm_look (l : Launch) (D : va_G) (cA : Nat → ClassId) (A : Nat → Prop) (o : Nat) (ad : Nat → Nat) (F G : Nat → Nat) (N X : Nat → Nat → Nat) (Z : Nat → Int) (K : Nat) (hKb : K ≤ 1000000) (hF : FB F) (hG : GB G) (hN : NB N) (hX : XB X) (hZ : ZB K Z) (lv sv mv to : Nat) (hl3 : lv ≤ 3) (hs : sv ≤ 9) (hm : mv ≤ 2000) (hto : to ≤ 9) : Met l yX2_look (ws_ yX2_look cX2_look 8 none) ({ frames := 3, cells := 0, slots := 0, locals := 78 }) (Pk D cA [.ref o, .int (iI (lv)), .int (iI (sv)), .int (iI (mv)), .int (iI (to))] (MW D cA A o ad F G N X Z)) (Qn (fun H' => MW D cA A o ad F (lookG F N X Z G lv sv mv to) N X Z H') A) 0 0 (A) := by
  refine Met.ofW (cc := cX2_look) (maxL := 8) (ret := none) (by decide) rfl ?_
  intro p e s m args below meth c s₁ B hml hv
  obtain ⟨rfl, hK, hW⟩ := hv
  have hx := B.exec
  have hb := B.bytes
  have hr := B.returns
  have hts := atoms_spec (ws := ws_ yX2_look cX2_look 8 none) B.pre
  have hts : ∀ w ∈ lw_all, w.before _ s = true := fun w h => hts w (List.mem_cons_of_mem _ h)
  have hown : s.vm.findClass RX2 = some m.cls := findClass_of_methodNamed B.named
  have hlocks := B.notSynchronized
  have hl := lv_entry ([.ref o, .int (iI (lv)), .int (iI (sv)), .int (iI (mv)), .int (iI (to))]) (n := 8) (Nat.le_of_ble_eq_true rfl)
  rw [lg_entry_eq]
  generalize (lg_sl ([.ref o, .int (iI (lv)), .int (iI (sv)), .int (iI (mv)), .int (iI (to))]) ++ List.replicate (8 - (lg_sl ([.ref o, .int (iI (lv)), .int (iI (sv)), .int (iI (mv)), .int (iI (to))])).length) Slot.unset).toArray = ls at hl ⊢
  have hl : lv_has ls 8 [(0, .ref o), (1, .int (iI (lv))), (2, .int (iI (sv))), (3, .int (iI (mv))), (4, .int (iI (to)))] := hl
  have hS : va_S A s.heap s.heap [] := va_S.rf
  have hF3 : F 3 ≤ 16 := hF 3
  refine lv_aload_n hx hb dX2_look_0 rfl (lv_at hl 0 rfl) ?_
  refine lv_iload_n hx hb dX2_look_1 rfl (lv_at hl 2 rfl) ?_
  refine lv_iload hx hb dX2_look_2 (lv_at hl 4 rfl) ?_
  have jn13 : ∀ (H : Heap) (locs : List Loc) (ls : Array Slot), MW D cA A o ad F G N X Z H → va_S A s.heap H locs → lv_has ls 8 [(0, .ref o), (1, .int (iI (lv))), (2, .int (iI (sv))), (3, .int (iI (mv))), (4, .int (iI (to)))] → W p l e (headSpec (ws_ yX2_look cX2_look 8 none) ({ frames := 3, cells := 0, slots := 0, locals := 78 })).room s m ([.ref o, .int (iI (lv)), .int (iI (sv)), .int (iI (mv)), .int (iI (to))] : List Value).toArray below meth c H locs 0 0 (MQ below (Qn (fun H' => MW D cA A o ad F (lookG F N X Z G lv sv mv to) N X Z H') A) ([.ref o, .int (iI (lv)), .int (iI (sv)), .int (iI (mv)), .int (iI (to))] : List Value).toArray s 0 0 (A)) (F0 m 13 ls [.int (iI ((if sv = to then mv else 268435456 : Nat))), .ref o]) := by
    intro   H locs ls hW hS hl
    refine ri_top (b := (((if sv = to then mv else 268435456 : Nat) : Nat) : Int)) rfl ?_
    refine m_putG hx hb hts hown hK hW hS 32 (by decide) q1006 rfl rfl rfl ((if sv = to then mv else 268435456 : Nat)) rfl dX2_look_13 (fun H locs hW hS => ?_)
    have hG : GB (va_up (G) 32 ((if sv = to then mv else 268435456 : Nat))) := hG.up (by show ((if sv = to then mv else 268435456 : Nat)) ≤ 268435456; split <;> omega)
    refine lv_aload_n hx hb dX2_look_16 rfl (lv_at hl 0 rfl) ?_
    refine lv_iconst (v := iI (0)) hx hb dX2_look_17 rfl ?_
    refine m_putG hx hb hts hown hK hW hS 33 (by decide) q1007 rfl rfl rfl (0) rfl dX2_look_18 (fun H locs hW hS => ?_)
    have hG : GB (va_up (va_up (G) 32 ((if sv = to then mv else 268435456 : Nat))) 33 (0)) := hG.up (by show 0 ≤ 3; omega)
    refine lv_aload_n hx hb dX2_look_21 rfl (lv_at hl 0 rfl) ?_
    refine lv_iconst (v := iI (-1)) hx hb dX2_look_22 rfl ?_
    refine m_putG hx hb hts hown hK hW hS 34 (by decide) q1008 rfl rfl rfl (0) rfl dX2_look_23 (fun H locs hW hS => ?_)
    have hG : GB (va_up (va_up (va_up (G) 32 ((if sv = to then mv else 268435456 : Nat))) 33 (0)) 34 (0)) := hG.up (by show 0 ≤ 16; omega)
    have hW : MW D cA A o ad F (lk0 G sv mv to) N X Z H := hW
    have hG : GB (lk0 G sv mv to) := hG
    refine lv_iconst (v := iI (0)) hx hb dX2_look_26 rfl ?_
    refine lv_istore (lv' := [(5, .int (iI (0))), (0, .ref o), (1, .int (iI (lv))), (2, .int (iI (sv))), (3, .int (iI (mv))), (4, .int (iI (to)))]) hx hb dX2_look_27 hl (by decide) rfl (fun ls hl => ?_)
    have lp29 : ∀ (fuel : Nat) (t : Nat) (Gc : Nat → Nat) (ht : t ≤ F 3) (hG : GB Gc) (hf1 : (if lv = 0 then [] else legsA N Z sv mv (F 3 - t) t).foldl (lkL X lv) Gc = lookG F N X Z G lv sv mv to), F 3 - t < fuel → ∀ (H : Heap) (locs : List Loc) (ls : Array Slot), MW D cA A o ad F Gc N X Z H → va_S A s.heap H locs → lv_has ls 8 [(5, .int (iI (t))), (0, .ref o), (1, .int (iI (lv))), (2, .int (iI (sv))), (3, .int (iI (mv))), (4, .int (iI (to)))] → W p l e (headSpec (ws_ yX2_look cX2_look 8 none) ({ frames := 3, cells := 0, slots := 0, locals := 78 })).room s m ([.ref o, .int (iI (lv)), .int (iI (sv)), .int (iI (mv)), .int (iI (to))] : List Value).toArray below meth c H locs 0 0 (MQ below (Qn (fun H' => MW D cA A o ad F (lookG F N X Z G lv sv mv to) N X Z H') A) ([.ref o, .int (iI (lv)), .int (iI (sv)), .int (iI (mv)), .int (iI (to))] : List Value).toArray s 0 0 (A)) (F0 m 29 ls []) := by
      intro fuel
      induction fuel with
      | zero => intro t Gc ht hG hf1 hm; exact absurd hm (Nat.not_lt_zero _)
      | succ fuel ih29 =>
        intro t Gc ht hG hf1 hm29 H locs ls hW hS hl
        refine lv_iload hx hb dX2_look_29 (lv_at hl 0 rfl) ?_
        refine lv_aload_n hx hb dX2_look_31 rfl (lv_at hl 1 rfl) ?_
        refine m_get hx hb hts hown hK hW 3 (by decide) q977 rfl (v := .int (iI (F 3))) rfl dX2_look_32 ?_
        have b1 : F 3 ≤ 16 := hF 3
        refine ri_icmp_ge (tgt := 152) hx hb (by unfold inR; omega) (by unfold inR; omega) dX2_look_35 (by decide) (fun h2 => ?_) (fun h2 => ?_)
        · skip
          rw [show F 3 - t = 0 by omega] at hf1
          have hf1 : Gc = lookG F N X Z G lv sv mv to := by rw [← hf1]; split <;> rfl
          exact W.vret hx hb hr (fun t ht hWm => ⟨⟨rfl, by rw [ht]; exact (hf1 ▸ hW)⟩, hS.F ht⟩) hS.2.2 dX2_look_152
        · skip
          refine lv_iload_n hx hb dX2_look_38 rfl (lv_at hl 2 rfl) ?_
          refine ri_if_le (tgt := 152) hx hb (by unfold inR; omega) dX2_look_39 (by decide) (fun h3 => ?_) (fun h3 => ?_)
          · skip
            rw [if_pos (by omega)] at hf1
            have hf1 : Gc = lookG F N X Z G lv sv mv to := hf1
            exact W.vret hx hb hr (fun t ht hWm => ⟨⟨rfl, by rw [ht]; exact (hf1 ▸ hW)⟩, hS.F ht⟩) hS.2.2 dX2_look_152
          · skip
            refine lv_iconst (v := iI (0)) hx hb dX2_look_42 rfl ?_
            refine lv_istore (lv' := [(6, .int (iI (0))), (5, .int (iI (t))), (0, .ref o), (1, .int (iI (lv))), (2, .int (iI (sv))), (3, .int (iI (mv))), (4, .int (iI (to)))]) hx hb dX2_look_43 hl (by decide) rfl (fun ls hl => ?_)
            have lp45 : ∀ (fuel : Nat) (on : Nat) (Gd : Nat → Nat) (hon : on ≤ N 8 t) (hG : GB Gd) (hf2 : (legsT N Z sv mv t (N 8 t - on) on).foldl (lkL X lv) Gd = (legsT N Z sv mv t (N 8 t) 0).foldl (lkL X lv) Gc), N 8 t - on < fuel → ∀ (H : Heap) (locs : List Loc) (ls : Array Slot), MW D cA A o ad F Gd N X Z H → va_S A s.heap H locs → lv_has ls 8 [(6, .int (iI (on))), (5, .int (iI (t))), (0, .ref o), (1, .int (iI (lv))), (2, .int (iI (sv))), (3, .int (iI (mv))), (4, .int (iI (to)))] → W p l e (headSpec (ws_ yX2_look cX2_look 8 none) ({ frames := 3, cells := 0, slots := 0, locals := 78 })).room s m ([.ref o, .int (iI (lv)), .int (iI (sv)), .int (iI (mv)), .int (iI (to))] : List Value).toArray below meth c H locs 0 0 (MQ below (Qn (fun H' => MW D cA A o ad F (lookG F N X Z G lv sv mv to) N X Z H') A) ([.ref o, .int (iI (lv)), .int (iI (sv)), .int (iI (mv)), .int (iI (to))] : List Value).toArray s 0 0 (A)) (F0 m 45 ls []) := by
              intro fuel
              induction fuel with
              | zero => intro on Gd hon hG hf2 hm; exact absurd hm (Nat.not_lt_zero _)
              | succ fuel ih45 =>
                intro on Gd hon hG hf2 hm45 H locs ls hW hS hl
                have hb8 : N 8 t ≤ 10 := hN 8 t
                refine lv_iload hx hb dX2_look_45 (lv_at hl 0 rfl) ?_
                refine lv_aload_n hx hb dX2_look_47 rfl (lv_at hl 2 rfl) ?_
                refine m_get hx hb hts hown hK hW 8 (by decide) q982 rfl (v := .ref (ad 8)) rfl dX2_look_48 ?_
                refine lv_iload hx hb dX2_look_51 (lv_at hl 1 rfl) ?_
                refine h_iald hx hb hK hW.a8 (t) (by omega) (by omega) (by decide) dX2_look_53 ?_
                have b4 : N 8 (t) ≤ 10 := hN 8 (t)
                refine ri_icmp_ge (tgt := 146) hx hb (by unfold inR; omega) (by unfold inR; omega) dX2_look_54 (by decide) (fun h5 => ?_) (fun h5 => ?_)
                · skip
                  refine lv_iinc (v := iI ((t + 1 : Nat))) (lv' := [(5, .int (iI ((t + 1 : Nat)))), (6, .int (iI (on))), (0, .ref o), (1, .int (iI (lv))), (2, .int (iI (sv))), (3, .int (iI (mv))), (4, .int (iI (to)))]) hx hb dX2_look_146 hl (k := 1) rfl (iI_succ _) (by decide) rfl (fun ls hl => ?_)
                  refine lv_goto (tgt := 29) hx hb dX2_look_149 (by decide) ?_
                  rw [show N 8 t - on = 0 by omega] at hf2
                  have hf2 : Gd = (legsT N Z sv mv t (N 8 t) 0).foldl (lkL X lv) Gc := hf2
                  rw [if_neg (by omega), show F 3 - t = (F 3 - (t + 1)) + 1 by omega, legsA, List.foldl_append, ← hf2] at hf1
                  exact ih29 (t + 1) (Gd) (by omega) hG (by rw [if_neg (by omega)]; exact hf1) (by omega) _ _ _ hW hS (lv_sub hl [0, 2, 3, 4, 5, 6] rfl)
                · skip
                  refine lv_aload_n hx hb dX2_look_57 rfl (lv_at hl 2 rfl) ?_
                  refine m_get hx hb hts hown hK hW 9 (by decide) q983 rfl (v := .ref (ad 9)) rfl dX2_look_58 ?_
                  refine lv_iload hx hb dX2_look_61 (lv_at hl 1 rfl) ?_
                  refine lv_iload hx hb dX2_look_63 (lv_at hl 0 rfl) ?_
                  refine rc_V (W.runS (As := [.int (iI (t)), .int (iI (on))]) (rest := [.ref (ad 9)]) ⟨hx, hb, hml, hown, hts⟩ (mm_node l D cA t on ) (va_cwS 2 hts (lw_S q1114 q1115 q62 q1116) rfl rfl rfl (by decide +kernel) ⟨Nat.le_of_ble_eq_true rfl, Nat.le_of_ble_eq_true rfl⟩) (preS hK (B := fun _ => True) trivial) rfl rfl hl.1 rfl (lv_room (Nat.le_of_ble_eq_true rfl)) dX2_look_65 ⟨Nat.le_of_ble_eq_true rfl, Nat.le_of_ble_eq_true rfl⟩) ?_
                  refine ri_top (b := (10 * t + on : Nat)) (by omega) ?_
                  refine h_iald hx hb hK hW.a9 ((10 * t + on : Nat)) (by omega) (by omega) (by decide) dX2_look_68 ?_
                  have b6 : N 9 ((10 * t + on : Nat)) ≤ 9 := hN 9 ((10 * t + on : Nat))
                  refine lv_iload_n hx hb dX2_look_69 rfl (lv_at hl 4 rfl) ?_
                  refine ri_icmp_ne (tgt := 140) hx hb (by unfold inR; omega) (by unfold inR; omega) dX2_look_70 (by decide) (fun h7 => ?_) (fun h7 => ?_)
                  · skip
                    refine lv_iinc (v := iI ((on + 1 : Nat))) (lv' := [(6, .int (iI ((on + 1 : Nat)))), (5, .int (iI (t))), (0, .ref o), (1, .int (iI (lv))), (2, .int (iI (sv))), (3, .int (iI (mv))), (4, .int (iI (to)))]) hx hb dX2_look_140 hl (k := 0) rfl (iI_succ _) (by decide) rfl (fun ls hl => ?_)
                    refine lv_goto (tgt := 45) hx hb dX2_look_143 (by decide) ?_
                    rw [show N 8 t - on = (N 8 t - (on + 1)) + 1 by omega, legsT, List.foldl_append] at hf2
                    have hf4 : legsO N Z sv mv t on = [] := by unfold legsO; exact if_neg (by omega)
                    rw [hf4] at hf2
                    exact ih45 (on + 1) (Gd) (by omega) hG hf2 (by omega) _ _ _ hW hS (lv_sub hl [0, 1, 2, 3, 4, 5, 6] rfl)
                  · skip
                    refine lv_aload_n hx hb dX2_look_73 rfl (lv_at hl 2 rfl) ?_
                    refine m_get hx hb hts hown hK hW 10 (by decide) q984 rfl (v := .ref (ad 10)) rfl dX2_look_74 ?_
                    refine lv_iload hx hb dX2_look_77 (lv_at hl 1 rfl) ?_
                    refine lv_iload hx hb dX2_look_79 (lv_at hl 0 rfl) ?_
                    refine rc_V (W.runS (As := [.int (iI (t)), .int (iI (on))]) (rest := [.ref (ad 10)]) ⟨hx, hb, hml, hown, hts⟩ (mm_node l D cA t on ) (va_cwS 2 hts (lw_S q1114 q1115 q62 q1116) rfl rfl rfl (by decide +kernel) ⟨Nat.le_of_ble_eq_true rfl, Nat.le_of_ble_eq_true rfl⟩) (preS hK (B := fun _ => True) trivial) rfl rfl hl.1 rfl (lv_room (Nat.le_of_ble_eq_true rfl)) dX2_look_81 ⟨Nat.le_of_ble_eq_true rfl, Nat.le_of_ble_eq_true rfl⟩) ?_
                    refine ri_top (b := (10 * t + on : Nat)) (by omega) ?_
                    refine h_iald hx hb hK hW.a10 ((10 * t + on : Nat)) (by omega) (by omega) (by decide) dX2_look_84 ?_
                    have b8 : N 10 ((10 * t + on : Nat)) ≤ 1439 := hN 10 ((10 * t + on : Nat))
                    refine lv_iload_n hx hb dX2_look_85 rfl (lv_at hl 5 rfl) ?_
                    refine ri_icmp_ge (tgt := 92) hx hb (by unfold inR; omega) (by unfold inR; omega) dX2_look_86 (by decide) (fun h9 => ?_) (fun h9 => ?_)
                    · skip
                      refine lv_iload hx hb dX2_look_92 (lv_at hl 0 rfl) ?_
                      refine lv_iconst (v := iI (1)) hx hb dX2_look_94 rfl ?_
                      refine ri_iadd hx hb dX2_look_95 ?_
                      refine ri_top (b := (on + 1 : Nat)) (by omega) ?_
                      refine lv_istore (lv' := [(7, .int (iI ((on + 1 : Nat)))), (6, .int (iI (on))), (5, .int (iI (t))), (0, .ref o), (1, .int (iI (lv))), (2, .int (iI (sv))), (3, .int (iI (mv))), (4, .int (iI (to)))]) hx hb dX2_look_96 hl (by decide) rfl (fun ls hl => ?_)
                      have lp98 : ∀ (fuel : Nat) (j : Nat) (Ge : Nat → Nat) (hj1 : on + 1 ≤ j) (hj2 : j ≤ N 8 t) (hG : GB Ge) (hf3 : (offL (freeB N Z t) (N 8 t - j) j).foldl (fun G off => lkL X lv G (t, on, off)) Ge = (legsO N Z sv mv t on).foldl (lkL X lv) Gd), N 8 t - j < fuel → ∀ (H : Heap) (locs : List Loc) (ls : Array Slot), MW D cA A o ad F Ge N X Z H → va_S A s.heap H locs → lv_has ls 8 [(7, .int (iI (j))), (6, .int (iI (on))), (5, .int (iI (t))), (0, .ref o), (1, .int (iI (lv))), (2, .int (iI (sv))), (3, .int (iI (mv))), (4, .int (iI (to)))] → W p l e (headSpec (ws_ yX2_look cX2_look 8 none) ({ frames := 3, cells := 0, slots := 0, locals := 78 })).room s m ([.ref o, .int (iI (lv)), .int (iI (sv)), .int (iI (mv)), .int (iI (to))] : List Value).toArray below meth c H locs 0 0 (MQ below (Qn (fun H' => MW D cA A o ad F (lookG F N X Z G lv sv mv to) N X Z H') A) ([.ref o, .int (iI (lv)), .int (iI (sv)), .int (iI (mv)), .int (iI (to))] : List Value).toArray s 0 0 (A)) (F0 m 98 ls []) := by
                        intro fuel
                        induction fuel with
                        | zero => intro j Ge hj1 hj2 hG hf3 hm; exact absurd hm (Nat.not_lt_zero _)
                        | succ fuel ih98 =>
                          intro j Ge hj1 hj2 hG hf3 hm98 H locs ls hW hS hl
                          refine lv_iload hx hb dX2_look_98 (lv_at hl 0 rfl) ?_
                          refine lv_aload_n hx hb dX2_look_100 rfl (lv_at hl 3 rfl) ?_
                          refine m_get hx hb hts hown hK hW 8 (by decide) q982 rfl (v := .ref (ad 8)) rfl dX2_look_101 ?_
                          refine lv_iload hx hb dX2_look_104 (lv_at hl 2 rfl) ?_
                          refine h_iald hx hb hK hW.a8 (t) (by omega) (by omega) (by decide) dX2_look_106 ?_
                          refine ri_icmp_ge (tgt := 140) hx hb (by unfold inR; omega) (by unfold inR; omega) dX2_look_107 (by decide) (fun h10 => ?_) (fun h10 => ?_)
                          · skip
                            rw [show N 8 t - j = 0 by omega] at hf3
                            have hf3 : Ge = (legsO N Z sv mv t on).foldl (lkL X lv) Gd := hf3
                            refine lv_iinc (v := iI ((on + 1 : Nat))) (lv' := [(6, .int (iI ((on + 1 : Nat)))), (7, .int (iI (j))), (5, .int (iI (t))), (0, .ref o), (1, .int (iI (lv))), (2, .int (iI (sv))), (3, .int (iI (mv))), (4, .int (iI (to)))]) hx hb dX2_look_140 hl (k := 1) rfl (iI_succ _) (by decide) rfl (fun ls hl => ?_)
                            refine lv_goto (tgt := 45) hx hb dX2_look_143 (by decide) ?_
                            rw [show N 8 t - on = (N 8 t - (on + 1)) + 1 by omega, legsT, List.foldl_append] at hf2
                            rw [← hf3] at hf2
                            exact ih45 (on + 1) (Ge) (by omega) hG hf2 (by omega) _ _ _ hW hS (lv_sub hl [0, 2, 3, 4, 5, 6, 7] rfl)
                          · skip
                            refine lv_aload_n hx hb dX2_look_110 rfl (lv_at hl 3 rfl) ?_
                            refine lv_iload hx hb dX2_look_111 (lv_at hl 2 rfl) ?_
                            refine lv_iload hx hb dX2_look_113 (lv_at hl 0 rfl) ?_
                            refine lv_iconst (v := iI (1)) hx hb dX2_look_115 rfl ?_
                            refine ri_isub hx hb dX2_look_116 ?_
                            refine ri_top (b := (j - 1 : Nat)) (by omega) ?_
                            refine rc_V (W.runV (As := [.int (iI (t)), .int (iI (((j - 1 : Nat) : Nat)))]) (rest := []) ⟨hx, hb, hml, hown, hts⟩ (mm_isFree l D cA A o ad F Ge N X Z K hKb hF hG hN hX hZ t ((j - 1 : Nat)) (by omega) (by omega)) (cwV 2 hts (lw_V q1155 q1157 qs25 q62 q1158) rfl rfl rfl (by decide +kernel) ⟨Nat.le_of_ble_eq_true rfl, Nat.le_of_ble_eq_true rfl⟩) (preV hK hW.1 rfl hW) rfl rfl hl.1 rfl (lv_room (Nat.le_of_ble_eq_true rfl)) dX2_look_117 ⟨Nat.le_of_ble_eq_true rfl, Nat.le_of_ble_eq_true rfl⟩) ?_
                            by_cases h11 : N 13 t = 0 ∧ Z (10 * t + ((j - 1 : Nat))) < (N 7 t : Nat)
                            · rw [if_pos h11]
                              rw [show N 8 t - j = (N 8 t - (j + 1)) + 1 by omega, offL, if_pos (by unfold freeB; exact decide_eq_true (by assumption)), List.foldl_cons] at hf3
                              refine ri_if_eq (tgt := 140) hx hb (by unfold inR; omega) dX2_look_120 (by decide) (fun h12 => ?_) (fun h12 => ?_)
                              · skip
                                exfalso; omega
                              · skip
                                refine lv_aload_n hx hb dX2_look_123 rfl (lv_at hl 3 rfl) ?_
                                refine lv_iload_n hx hb dX2_look_124 rfl (lv_at hl 4 rfl) ?_
                                refine lv_iload hx hb dX2_look_125 (lv_at hl 2 rfl) ?_
                                refine lv_iload hx hb dX2_look_127 (lv_at hl 1 rfl) ?_
                                refine lv_iload hx hb dX2_look_129 (lv_at hl 0 rfl) ?_
                                refine rc_N (W.runV (As := [.int (iI (lv)), .int (iI (t)), .int (iI (on)), .int (iI (j))]) (rest := []) ⟨hx, hb, hml, hown, hts⟩ (mm_lookLeg l D cA A o ad F Ge N X Z K hKb hF hG hN hX hZ lv t on j (by omega) (by omega) (by omega) (by omega) (by omega)) (cwV 4 hts (lw_V q1159 q1161 qs26 q62 q1162) rfl rfl rfl (by decide +kernel) ⟨Nat.le_of_ble_eq_true rfl, Nat.le_of_ble_eq_true rfl⟩) (preV hK hW.1 rfl hW) rfl rfl hl.1 rfl (lv_room (Nat.le_of_ble_eq_true rfl)) dX2_look_131 ⟨Nat.le_of_ble_eq_true rfl, Nat.le_of_ble_eq_true rfl⟩) hS (fun _ _ h => h) (fun _ h => h) (fun H locs hq hS hz hk => ?_)
                                have hW := hq
                                have hG : GB (lkG X Ge (160 * (lv - 1) + (10 * t + j)) t on j) := lkG_B hX hG (by omega) (by omega) (by omega) (by omega)
                                have hG : GB (lkL X lv Ge (t, on, j)) := hG
                                have hW : MW D cA A o ad F (lkL X lv Ge (t, on, j)) N X Z H := hW
                                refine lv_iinc (v := iI ((j + 1 : Nat))) (lv' := [(7, .int (iI ((j + 1 : Nat)))), (6, .int (iI (on))), (5, .int (iI (t))), (0, .ref o), (1, .int (iI (lv))), (2, .int (iI (sv))), (3, .int (iI (mv))), (4, .int (iI (to)))]) hx hb dX2_look_134 hl (k := 0) rfl (iI_succ _) (by decide) rfl (fun ls hl => ?_)
                                refine lv_goto (tgt := 98) hx hb dX2_look_137 (by decide) ?_
                                exact ih98 (j + 1) (lkL X lv Ge (t, on, j)) (by omega) (by omega) hG hf3 (by omega) _ _ _ hW hS (lv_sub hl [0, 1, 2, 3, 4, 5, 6, 7] rfl)
                            · rw [if_neg h11]
                              rw [show N 8 t - j = (N 8 t - (j + 1)) + 1 by omega, offL, if_neg (by unfold freeB; rw [decide_eq_false (by assumption)]; exact Bool.false_ne_true)] at hf3
                              have hf3 : Ge = (legsO N Z sv mv t on).foldl (lkL X lv) Gd := hf3
                              refine ri_if_eq (tgt := 140) hx hb (by unfold inR; omega) dX2_look_120 (by decide) (fun h13 => ?_) (fun h13 => ?_)
                              · skip
                                refine lv_iinc (v := iI ((on + 1 : Nat))) (lv' := [(6, .int (iI ((on + 1 : Nat)))), (7, .int (iI (j))), (5, .int (iI (t))), (0, .ref o), (1, .int (iI (lv))), (2, .int (iI (sv))), (3, .int (iI (mv))), (4, .int (iI (to)))]) hx hb dX2_look_140 hl (k := 1) rfl (iI_succ _) (by decide) rfl (fun ls hl => ?_)
                                refine lv_goto (tgt := 45) hx hb dX2_look_143 (by decide) ?_
                                rw [show N 8 t - on = (N 8 t - (on + 1)) + 1 by omega, legsT, List.foldl_append] at hf2
                                rw [← hf3] at hf2
                                exact ih45 (on + 1) (Ge) (by omega) hG hf2 (by omega) _ _ _ hW hS (lv_sub hl [0, 2, 3, 4, 5, 6, 7] rfl)
                              · skip
                                exfalso; omega
                      exact lp98 _ (on + 1) (Gd) (Nat.le_refl _) (by omega) hG (by unfold legsO; rw [if_pos (by omega), List.foldl_map]) (Nat.lt_succ_self _) _ _ _ hW hS (lv_sub hl [0, 1, 2, 3, 4, 5, 6, 7] rfl)
                    · skip
                      refine lv_goto (tgt := 140) hx hb dX2_look_89 (by decide) ?_
                      refine lv_iinc (v := iI ((on + 1 : Nat))) (lv' := [(6, .int (iI ((on + 1 : Nat)))), (5, .int (iI (t))), (0, .ref o), (1, .int (iI (lv))), (2, .int (iI (sv))), (3, .int (iI (mv))), (4, .int (iI (to)))]) hx hb dX2_look_140 hl (k := 0) rfl (iI_succ _) (by decide) rfl (fun ls hl => ?_)
                      refine lv_goto (tgt := 45) hx hb dX2_look_143 (by decide) ?_
                      rw [show N 8 t - on = (N 8 t - (on + 1)) + 1 by omega, legsT, List.foldl_append] at hf2
                      have hf4 : legsO N Z sv mv t on = [] := by unfold legsO; exact if_neg (by omega)
                      rw [hf4] at hf2
                      exact ih45 (on + 1) (Gd) (by omega) hG hf2 (by omega) _ _ _ hW hS (lv_sub hl [0, 1, 2, 3, 4, 5, 6] rfl)
            exact lp45 _ (0) (Gc) (Nat.zero_le _) hG rfl (Nat.lt_succ_self _) _ _ _ hW hS (lv_sub hl [0, 1, 2, 3, 4, 5, 6] rfl)
    exact lp29 _ (0) (lk0 G sv mv to) (Nat.zero_le _) hG rfl (Nat.lt_succ_self _) _ _ _ hW hS (lv_sub hl [0, 1, 2, 3, 4, 5] rfl)
  refine ri_icmp_ne (tgt := 11) hx hb (by unfold inR; omega) (by unfold inR; omega) dX2_look_4 (by decide) (fun h14 => ?_) (fun h14 => ?_)
  · skip
    refine lv_ldc (v := iI (268435456)) hx hb hown (show (Cond.constant RX2 153 (iI (268435456))).before _ s = true from hts _ q1154) dX2_look_11 ?_
    refine ri_top (b := ((if sv = to then mv else 268435456 : Nat) : Int)) (by split <;> omega) ?_
    exact jn13   _ _ _ hW hS (lv_sub hl [0, 1, 2, 3, 4] rfl)
  · skip
    refine lv_iload_n hx hb dX2_look_7 rfl (lv_at hl 3 rfl) ?_
    refine lv_goto (tgt := 13) hx hb dX2_look_8 (by decide) ?_
    refine ri_top (b := ((if sv = to then mv else 268435456 : Nat) : Int)) (by split <;> omega) ?_
    exact jn13   _ _ _ hW hS (lv_sub hl [0, 1, 2, 3, 4] rfl)

set_option maxHeartbeats 4000000 in
set_option maxRecDepth 100000 in
theorem mm_reckonOne (l : Launch) (D : va_G) (cA : Nat → ClassId) (A : Nat → Prop) (o : Nat) (ad : Nat → Nat) (F G : Nat → Nat) (N X : Nat → Nat → Nat) (Z : Nat → Int) (K : Nat) (hKb : K ≤ 1000000) (hF : FB F) (hG : GB G) (hN : NB N) (hX : XB X) (hZ : ZB K Z) (lv n sv mv to : Nat) (hl3 : lv ≤ 3) (hn : n < 160) (hs : sv ≤ 9) (hm : mv ≤ 2000) (hto : to ≤ 9) : Met l yX2_reckonOne (ws_ yX2_reckonOne cX2_reckonOne 6 none) ({ frames := 4, cells := 0, slots := 0, locals := 105 }) (Pk D cA [.ref o, .int (iI (lv)), .int (iI (n)), .int (iI (sv)), .int (iI (mv)), .int (iI (to))] (MW D cA A o ad F G N X Z)) (Qn (fun H' => MW D cA A o ad F (lookG F N X Z G lv sv mv to) N (up2 (up2 X 30 (160 * lv + n) ((lookG F N X Z G lv sv mv to) 32)) 31 (160 * lv + n) ((lookG F N X Z G lv sv mv to) 33)) Z H') A) 0 0 (A) := by
  refine Met.ofW (cc := cX2_reckonOne) (maxL := 6) (ret := none) (by decide) rfl ?_
  intro p e s m args below meth c s₁ B hml hv
  obtain ⟨rfl, hK, hW⟩ := hv
  have hx := B.exec
  have hb := B.bytes
  have hr := B.returns
  have hts := atoms_spec (ws := ws_ yX2_reckonOne cX2_reckonOne 6 none) B.pre
  have hts : ∀ w ∈ lw_all, w.before _ s = true := fun w h => hts w (List.mem_cons_of_mem _ h)
  have hown : s.vm.findClass RX2 = some m.cls := findClass_of_methodNamed B.named
  have hlocks := B.notSynchronized
  have hl := lv_entry ([.ref o, .int (iI (lv)), .int (iI (n)), .int (iI (sv)), .int (iI (mv)), .int (iI (to))]) (n := 6) (Nat.le_of_ble_eq_true rfl)
  rw [lg_entry_eq]
  generalize (lg_sl ([.ref o, .int (iI (lv)), .int (iI (n)), .int (iI (sv)), .int (iI (mv)), .int (iI (to))]) ++ List.replicate (6 - (lg_sl ([.ref o, .int (iI (lv)), .int (iI (n)), .int (iI (sv)), .int (iI (mv)), .int (iI (to))])).length) Slot.unset).toArray = ls at hl ⊢
  have hl : lv_has ls 6 [(0, .ref o), (1, .int (iI (lv))), (2, .int (iI (n))), (3, .int (iI (sv))), (4, .int (iI (mv))), (5, .int (iI (to)))] := hl
  have hS : va_S A s.heap s.heap [] := va_S.rf
  have hF3 : F 3 ≤ 16 := hF 3
  refine lv_aload_n hx hb dX2_reckonOne_0 rfl (lv_at hl 0 rfl) ?_
  refine lv_iload_n hx hb dX2_reckonOne_1 rfl (lv_at hl 1 rfl) ?_
  refine lv_iload_n hx hb dX2_reckonOne_2 rfl (lv_at hl 3 rfl) ?_
  refine lv_iload hx hb dX2_reckonOne_3 (lv_at hl 4 rfl) ?_
  refine lv_iload hx hb dX2_reckonOne_5 (lv_at hl 5 rfl) ?_
  refine rc_N (W.runV (As := [.int (iI (lv)), .int (iI (sv)), .int (iI (mv)), .int (iI (to))]) (rest := []) ⟨hx, hb, hml, hown, hts⟩ (mm_look l D cA A o ad F G N X Z K hKb hF hG hN hX hZ lv sv mv to (by omega) (by omega) (by omega) (by omega)) (cwV 4 hts (lw_V q1150 q1152 qs24 q62 q1153) rfl rfl rfl (by decide +kernel) ⟨Nat.le_of_ble_eq_true rfl, Nat.le_of_ble_eq_true rfl⟩) (preV hK hW.1 rfl hW) rfl rfl hl.1 rfl (lv_room (Nat.le_of_ble_eq_true rfl)) dX2_reckonOne_7 ⟨Nat.le_of_ble_eq_true rfl, Nat.le_of_ble_eq_true rfl⟩) hS (fun _ _ h => h) (fun _ h => h) (fun H locs hq hS hz hk => ?_)
  have hW := hq
  have hG : GB (lookG F N X Z G lv sv mv to) := lookG_B (by omega) (by omega) hX hG hN (by omega)
  have hbl := lookG_33 (F := F) (N := N) (Z := Z) (G := G) (l := lv) (s := sv) (m := mv) (to := to) hX hN (by omega)
  refine lv_aload_n hx hb dX2_reckonOne_10 rfl (lv_at hl 0 rfl) ?_
  refine m_get hx hb hts hown hK hW 30 (by decide) q1004 rfl (v := .ref (ad 30)) rfl dX2_reckonOne_11 ?_
  refine lv_sipush (v := iI (160)) hx hb dX2_reckonOne_14 (by decide) ?_
  refine lv_iload_n hx hb dX2_reckonOne_17 rfl (lv_at hl 1 rfl) ?_
  refine ri_imul hx hb dX2_reckonOne_18 ?_
  refine ri_top (b := (160 * lv : Nat)) (by omega) ?_
  refine lv_iload_n hx hb dX2_reckonOne_19 rfl (lv_at hl 2 rfl) ?_
  refine ri_iadd hx hb dX2_reckonOne_20 ?_
  refine ri_top (b := ((160 * lv + n) : Nat)) (by omega) ?_
  refine lv_aload_n hx hb dX2_reckonOne_21 rfl (lv_at hl 0 rfl) ?_
  refine m_get hx hb hts hown hK hW 32 (by decide) q1006 rfl (v := .int (iI ((lookG F N X Z G lv sv mv to) 32))) rfl dX2_reckonOne_22 ?_
  have b1 : (lookG F N X Z G lv sv mv to) 32 ≤ 268435456 := hG 32
  refine m_stX hx hb hK hW hS 30 (by unfold isA; omega) (by omega) rfl (((160 * lv + n) : Nat)) (by omega) (by show _ < 640; omega) ((lookG F N X Z G lv sv mv to) 32) (by omega) dX2_reckonOne_25 (fun H locs hW hS => ?_)
  have hX : XB (up2 (X) 30 (((160 * lv + n) : Nat)) ((lookG F N X Z G lv sv mv to) 32)) := hX.up (by show ((lookG F N X Z G lv sv mv to) 32) ≤ 268435456; omega)
  refine lv_aload_n hx hb dX2_reckonOne_26 rfl (lv_at hl 0 rfl) ?_
  refine m_get hx hb hts hown hK hW 31 (by decide) q1005 rfl (v := .ref (ad 31)) rfl dX2_reckonOne_27 ?_
  refine lv_sipush (v := iI (160)) hx hb dX2_reckonOne_30 (by decide) ?_
  refine lv_iload_n hx hb dX2_reckonOne_33 rfl (lv_at hl 1 rfl) ?_
  refine ri_imul hx hb dX2_reckonOne_34 ?_
  refine ri_top (b := (160 * lv : Nat)) (by omega) ?_
  refine lv_iload_n hx hb dX2_reckonOne_35 rfl (lv_at hl 2 rfl) ?_
  refine ri_iadd hx hb dX2_reckonOne_36 ?_
  refine ri_top (b := ((160 * lv + n) : Nat)) (by omega) ?_
  refine lv_aload_n hx hb dX2_reckonOne_37 rfl (lv_at hl 0 rfl) ?_
  refine m_get hx hb hts hown hK hW 33 (by decide) q1007 rfl (v := .int (iI ((lookG F N X Z G lv sv mv to) 33))) rfl dX2_reckonOne_38 ?_
  have b2 : (lookG F N X Z G lv sv mv to) 33 ≤ 3 := hG 33
  refine m_stX hx hb hK hW hS 31 (by unfold isA; omega) (by omega) rfl (((160 * lv + n) : Nat)) (by omega) (by show _ < 640; omega) ((lookG F N X Z G lv sv mv to) 33) (by omega) dX2_reckonOne_41 (fun H locs hW hS => ?_)
  have hX : XB (up2 (up2 (X) 30 (((160 * lv + n) : Nat)) ((lookG F N X Z G lv sv mv to) 32)) 31 (((160 * lv + n) : Nat)) ((lookG F N X Z G lv sv mv to) 33)) := hX.up (by show ((lookG F N X Z G lv sv mv to) 33) ≤ (((160 * lv + n) : Nat)) / 160; omega)
  exact W.vret hx hb hr (fun t ht hWm => ⟨⟨rfl, by rw [ht]; exact hW⟩, hS.F ht⟩) hS.2.2 dX2_reckonOne_42

set_option maxHeartbeats 4000000 in
set_option maxRecDepth 100000 in
theorem mm_reckon (l : Launch) (D : va_G) (cA : Nat → ClassId) (A : Nat → Prop) (o : Nat) (ad : Nat → Nat) (F G : Nat → Nat) (N X : Nat → Nat → Nat) (Z : Nat → Int) (K : Nat) (hKb : K ≤ 1000000) (hF : FB F) (hG : GB G) (hN : NB N) (hX : XB X) (hZ : ZB K Z) (to : Nat) (hto : to ≤ 9) : Met l yX2_reckon (ws_ yX2_reckon cX2_reckon 6 none) ({ frames := 5, cells := 0, slots := 0, locals := 130 }) (Pk D cA [.ref o, .int (iI (to))] (MW D cA A o ad F G N X Z)) (Qn (fun H' => ∃ G' X', GB G' ∧ XB X' ∧ X' 37 = X 37 ∧ RI (F 3) N X' Z to 640 ∧ MW D cA A o ad F G' N X' Z H') A) 0 0 (A) := by
  refine Met.ofW (cc := cX2_reckon) (maxL := 6) (ret := none) (by decide) rfl ?_
  intro p e s m args below meth c s₁ B hml hv
  obtain ⟨rfl, hK, hW⟩ := hv
  have hx := B.exec
  have hb := B.bytes
  have hr := B.returns
  have hts := atoms_spec (ws := ws_ yX2_reckon cX2_reckon 6 none) B.pre
  have hts : ∀ w ∈ lw_all, w.before _ s = true := fun w h => hts w (List.mem_cons_of_mem _ h)
  have hown : s.vm.findClass RX2 = some m.cls := findClass_of_methodNamed B.named
  have hlocks := B.notSynchronized
  have hl := lv_entry ([.ref o, .int (iI (to))]) (n := 6) (Nat.le_of_ble_eq_true rfl)
  rw [lg_entry_eq]
  generalize (lg_sl ([.ref o, .int (iI (to))]) ++ List.replicate (6 - (lg_sl ([.ref o, .int (iI (to))])).length) Slot.unset).toArray = ls at hl ⊢
  have hl : lv_has ls 6 [(0, .ref o), (1, .int (iI (to)))] := hl
  have hS : va_S A s.heap s.heap [] := va_S.rf
  have hF3 : F 3 ≤ 16 := hF 3
  refine lv_iconst (v := iI (0)) hx hb dX2_reckon_0 rfl ?_
  refine lv_istore_n (lv' := [(2, .int (iI (0))), (0, .ref o), (1, .int (iI (to)))]) hx hb dX2_reckon_1 rfl hl (by decide) rfl (fun ls hl => ?_)
  have lp2 : ∀ (fuel : Nat) (lv : Nat) (Gc : Nat → Nat) (Xc : Nat → Nat → Nat) (hl4 : lv ≤ 4) (hG : GB Gc) (hX : XB Xc) (h37 : Xc 37 = X 37) (hR : RI (F 3) N Xc Z to (160 * lv)), 4 - lv < fuel → ∀ (H : Heap) (locs : List Loc) (ls : Array Slot), MW D cA A o ad F Gc N Xc Z H → va_S A s.heap H locs → lv_has ls 6 [(2, .int (iI (lv))), (0, .ref o), (1, .int (iI (to)))] → W p l e (headSpec (ws_ yX2_reckon cX2_reckon 6 none) ({ frames := 5, cells := 0, slots := 0, locals := 130 })).room s m ([.ref o, .int (iI (to))] : List Value).toArray below meth c H locs 0 0 (MQ below (Qn (fun H' => ∃ G' X', GB G' ∧ XB X' ∧ X' 37 = X 37 ∧ RI (F 3) N X' Z to 640 ∧ MW D cA A o ad F G' N X' Z H') A) ([.ref o, .int (iI (to))] : List Value).toArray s 0 0 (A)) (F0 m 2 ls []) := by
    intro fuel
    induction fuel with
    | zero => intro lv Gc Xc hl4 hG hX h37 hR hm; exact absurd hm (Nat.not_lt_zero _)
    | succ fuel ih2 =>
      intro lv Gc Xc hl4 hG hX h37 hR hm2 H locs ls hW hS hl
      refine lv_iload_n hx hb dX2_reckon_2 rfl (lv_at hl 0 rfl) ?_
      refine lv_iconst (v := iI (3)) hx hb dX2_reckon_3 rfl ?_
      refine ri_icmp_gt (tgt := 92) hx hb (by unfold inR; omega) (by unfold inR; omega) dX2_reckon_4 (by decide) (fun h1 => ?_) (fun h1 => ?_)
      · skip
        exact W.vret hx hb hr (fun t ht hWm => ⟨⟨rfl, by rw [ht]; exact ⟨Gc, Xc, hG, hX, h37, by rw [show 640 = 160 * lv by omega]; exact hR, hW⟩⟩, hS.F ht⟩) hS.2.2 dX2_reckon_92
      · skip
        refine lv_iconst (v := iI (0)) hx hb dX2_reckon_7 rfl ?_
        refine lv_istore_n (lv' := [(3, .int (iI (0))), (2, .int (iI (lv))), (0, .ref o), (1, .int (iI (to)))]) hx hb dX2_reckon_8 rfl hl (by decide) rfl (fun ls hl => ?_)
        have lp9 : ∀ (fuel : Nat) (t : Nat) (Gc : Nat → Nat) (Xc : Nat → Nat → Nat) (ht : t ≤ F 3) (hG : GB Gc) (hX : XB Xc) (h37 : Xc 37 = X 37) (hR : RI (F 3) N Xc Z to (160 * lv + (10 * t + 0))), F 3 - t < fuel → ∀ (H : Heap) (locs : List Loc) (ls : Array Slot), MW D cA A o ad F Gc N Xc Z H → va_S A s.heap H locs → lv_has ls 6 [(3, .int (iI (t))), (2, .int (iI (lv))), (0, .ref o), (1, .int (iI (to)))] → W p l e (headSpec (ws_ yX2_reckon cX2_reckon 6 none) ({ frames := 5, cells := 0, slots := 0, locals := 130 })).room s m ([.ref o, .int (iI (to))] : List Value).toArray below meth c H locs 0 0 (MQ below (Qn (fun H' => ∃ G' X', GB G' ∧ XB X' ∧ X' 37 = X 37 ∧ RI (F 3) N X' Z to 640 ∧ MW D cA A o ad F G' N X' Z H') A) ([.ref o, .int (iI (to))] : List Value).toArray s 0 0 (A)) (F0 m 9 ls []) := by
          intro fuel
          induction fuel with
          | zero => intro t Gc Xc ht hG hX h37 hR hm; exact absurd hm (Nat.not_lt_zero _)
          | succ fuel ih9 =>
            intro t Gc Xc ht hG hX h37 hR hm9 H locs ls hW hS hl
            refine lv_iload_n hx hb dX2_reckon_9 rfl (lv_at hl 0 rfl) ?_
            refine lv_aload_n hx hb dX2_reckon_10 rfl (lv_at hl 2 rfl) ?_
            refine m_get hx hb hts hown hK hW 3 (by decide) q977 rfl (v := .int (iI (F 3))) rfl dX2_reckon_11 ?_
            have b2 : F 3 ≤ 16 := hF 3
            refine ri_icmp_ge (tgt := 86) hx hb (by unfold inR; omega) (by unfold inR; omega) dX2_reckon_14 (by decide) (fun h3 => ?_) (fun h3 => ?_)
            · skip
              refine lv_iinc (v := iI ((lv + 1 : Nat))) (lv' := [(2, .int (iI ((lv + 1 : Nat)))), (3, .int (iI (t))), (0, .ref o), (1, .int (iI (to)))]) hx hb dX2_reckon_86 hl (k := 1) rfl (iI_succ _) (by decide) rfl (fun ls hl => ?_)
              refine lv_goto (tgt := 2) hx hb dX2_reckon_89 (by decide) ?_
              have hR := RI_l hR hN (by omega) (by omega)
              exact ih2 (lv + 1) (Gc) (Xc) (by omega) hG hX h37 hR (by omega) _ _ _ hW hS (lv_sub hl [0, 2, 3] rfl)
            · skip
              refine lv_iconst (v := iI (0)) hx hb dX2_reckon_17 rfl ?_
              refine lv_istore (lv' := [(4, .int (iI (0))), (3, .int (iI (t))), (2, .int (iI (lv))), (0, .ref o), (1, .int (iI (to)))]) hx hb dX2_reckon_18 hl (by decide) rfl (fun ls hl => ?_)
              have lp20 : ∀ (fuel : Nat) (k : Nat) (Gc : Nat → Nat) (Xc : Nat → Nat → Nat) (hk : k ≤ N 8 t) (hG : GB Gc) (hX : XB Xc) (h37 : Xc 37 = X 37) (hR : RI (F 3) N Xc Z to (160 * lv + (10 * t + k))), N 8 t - k < fuel → ∀ (H : Heap) (locs : List Loc) (ls : Array Slot), MW D cA A o ad F Gc N Xc Z H → va_S A s.heap H locs → lv_has ls 6 [(4, .int (iI (k))), (3, .int (iI (t))), (2, .int (iI (lv))), (0, .ref o), (1, .int (iI (to)))] → W p l e (headSpec (ws_ yX2_reckon cX2_reckon 6 none) ({ frames := 5, cells := 0, slots := 0, locals := 130 })).room s m ([.ref o, .int (iI (to))] : List Value).toArray below meth c H locs 0 0 (MQ below (Qn (fun H' => ∃ G' X', GB G' ∧ XB X' ∧ X' 37 = X 37 ∧ RI (F 3) N X' Z to 640 ∧ MW D cA A o ad F G' N X' Z H') A) ([.ref o, .int (iI (to))] : List Value).toArray s 0 0 (A)) (F0 m 20 ls []) := by
                intro fuel
                induction fuel with
                | zero => intro k Gc Xc hk hG hX h37 hR hm; exact absurd hm (Nat.not_lt_zero _)
                | succ fuel ih20 =>
                  intro k Gc Xc hk hG hX h37 hR hm20 H locs ls hW hS hl
                  have hb8 : N 8 t ≤ 10 := hN 8 t
                  refine lv_iload hx hb dX2_reckon_20 (lv_at hl 0 rfl) ?_
                  refine lv_aload_n hx hb dX2_reckon_22 rfl (lv_at hl 3 rfl) ?_
                  refine m_get hx hb hts hown hK hW 8 (by decide) q982 rfl (v := .ref (ad 8)) rfl dX2_reckon_23 ?_
                  refine lv_iload_n hx hb dX2_reckon_26 rfl (lv_at hl 1 rfl) ?_
                  refine h_iald hx hb hK hW.a8 (t) (by omega) (by omega) (by decide) dX2_reckon_27 ?_
                  have b4 : N 8 (t) ≤ 10 := hN 8 (t)
                  refine ri_icmp_ge (tgt := 80) hx hb (by unfold inR; omega) (by unfold inR; omega) dX2_reckon_28 (by decide) (fun h5 => ?_) (fun h5 => ?_)
                  · skip
                    refine lv_iinc (v := iI ((t + 1 : Nat))) (lv' := [(3, .int (iI ((t + 1 : Nat)))), (4, .int (iI (k))), (2, .int (iI (lv))), (0, .ref o), (1, .int (iI (to)))]) hx hb dX2_reckon_80 hl (k := 1) rfl (iI_succ _) (by decide) rfl (fun ls hl => ?_)
                    refine lv_goto (tgt := 9) hx hb dX2_reckon_83 (by decide) ?_
                    have hR := RI_t hR hN (by omega) (by omega) (by omega)
                    exact ih9 (t + 1) (Gc) (Xc) (by omega) hG hX h37 hR (by omega) _ _ _ hW hS (lv_sub hl [0, 2, 3, 4] rfl)
                  · skip
                    refine lv_iload_n hx hb dX2_reckon_31 rfl (lv_at hl 1 rfl) ?_
                    refine lv_iload hx hb dX2_reckon_32 (lv_at hl 0 rfl) ?_
                    refine rc_V (W.runS (As := [.int (iI (t)), .int (iI (k))]) (rest := []) ⟨hx, hb, hml, hown, hts⟩ (mm_node l D cA t k ) (va_cwS 2 hts (lw_S q1114 q1115 q62 q1116) rfl rfl rfl (by decide +kernel) ⟨Nat.le_of_ble_eq_true rfl, Nat.le_of_ble_eq_true rfl⟩) (preS hK (B := fun _ => True) trivial) rfl rfl hl.1 rfl (lv_room (Nat.le_of_ble_eq_true rfl)) dX2_reckon_34 ⟨Nat.le_of_ble_eq_true rfl, Nat.le_of_ble_eq_true rfl⟩) ?_
                    refine ri_top (b := ((10 * t + k) : Nat)) (by omega) ?_
                    refine lv_istore (lv' := [(5, .int (iI (((10 * t + k) : Nat)))), (4, .int (iI (k))), (3, .int (iI (t))), (2, .int (iI (lv))), (0, .ref o), (1, .int (iI (to)))]) hx hb dX2_reckon_37 hl (by decide) rfl (fun ls hl => ?_)
                    refine lv_aload_n hx hb dX2_reckon_39 rfl (lv_at hl 4 rfl) ?_
                    refine lv_iload_n hx hb dX2_reckon_40 rfl (lv_at hl 3 rfl) ?_
                    refine lv_iload hx hb dX2_reckon_41 (lv_at hl 0 rfl) ?_
                    refine lv_aload_n hx hb dX2_reckon_43 rfl (lv_at hl 4 rfl) ?_
                    refine m_get hx hb hts hown hK hW 9 (by decide) q983 rfl (v := .ref (ad 9)) rfl dX2_reckon_44 ?_
                    refine lv_iload hx hb dX2_reckon_47 (lv_at hl 0 rfl) ?_
                    refine h_iald hx hb hK hW.a9 (((10 * t + k) : Nat)) (by omega) (by omega) (by decide) dX2_reckon_49 ?_
                    have b6 : N 9 (((10 * t + k) : Nat)) ≤ 9 := hN 9 (((10 * t + k) : Nat))
                    refine lv_aload_n hx hb dX2_reckon_50 rfl (lv_at hl 4 rfl) ?_
                    refine m_get hx hb hts hown hK hW 10 (by decide) q984 rfl (v := .ref (ad 10)) rfl dX2_reckon_51 ?_
                    refine lv_iload hx hb dX2_reckon_54 (lv_at hl 0 rfl) ?_
                    refine h_iald hx hb hK hW.a10 (((10 * t + k) : Nat)) (by omega) (by omega) (by decide) dX2_reckon_56 ?_
                    have b7 : N 10 (((10 * t + k) : Nat)) ≤ 1439 := hN 10 (((10 * t + k) : Nat))
                    refine lv_aload_n hx hb dX2_reckon_57 rfl (lv_at hl 4 rfl) ?_
                    refine m_get hx hb hts hown hK hW 6 (by decide) q980 rfl (v := .ref (ad 6)) rfl dX2_reckon_58 ?_
                    refine lv_aload_n hx hb dX2_reckon_61 rfl (lv_at hl 4 rfl) ?_
                    refine m_get hx hb hts hown hK hW 9 (by decide) q983 rfl (v := .ref (ad 9)) rfl dX2_reckon_62 ?_
                    refine lv_iload hx hb dX2_reckon_65 (lv_at hl 0 rfl) ?_
                    refine h_iald hx hb hK hW.a9 (((10 * t + k) : Nat)) (by omega) (by omega) (by decide) dX2_reckon_67 ?_
                    refine h_iald hx hb hK hW.a6 (N 9 (((10 * t + k) : Nat))) (by omega) (by omega) (by decide) dX2_reckon_68 ?_
                    have b8 : N 6 (N 9 (((10 * t + k) : Nat))) ≤ 60 := hN 6 (N 9 (((10 * t + k) : Nat)))
                    refine ri_iadd hx hb dX2_reckon_69 ?_
                    refine ri_top (b := (behN N (10 * t + k) : Nat)) (by unfold behN; omega) ?_
                    have hbb := behN_le hN (10 * t + k)
                    refine lv_iload_n hx hb dX2_reckon_70 rfl (lv_at hl 5 rfl) ?_
                    refine rc_N (W.runV (As := [.int (iI (lv)), .int (iI ((((10 * t + k) : Nat) : Nat))), .int (iI ((N 9 (((10 * t + k) : Nat)) : Nat))), .int (iI (((behN N (10 * t + k) : Nat) : Nat))), .int (iI (to))]) (rest := []) ⟨hx, hb, hml, hown, hts⟩ (mm_reckonOne l D cA A o ad F Gc N Xc Z K hKb hF hG hN hX hZ lv (((10 * t + k) : Nat)) (N 9 (((10 * t + k) : Nat))) ((behN N (10 * t + k) : Nat)) to (by omega) (by omega) (by omega) (by omega) (by omega)) (cwV 5 hts (lw_V q1146 q1148 qs23 q62 q1149) rfl rfl rfl (by decide +kernel) ⟨Nat.le_of_ble_eq_true rfl, Nat.le_of_ble_eq_true rfl⟩) (preV hK hW.1 rfl hW) rfl rfl hl.1 rfl (lv_room (Nat.le_of_ble_eq_true rfl)) dX2_reckon_71 ⟨Nat.le_of_ble_eq_true rfl, Nat.le_of_ble_eq_true rfl⟩) hS (fun _ _ h => h) (fun _ h => h) (fun H locs hq hS hz hk => ?_)
                    have hB := lookG_is (F := F) (N := N) (X := Xc) (Z := Z) (G := Gc) (l := lv) (s := N 9 (10 * t + k)) (m := behN N (10 * t + k)) (to := to) (by omega) (RI_mono hR (by omega)) hN (by omega)
                    have h33 := lookG_33 (F := F) (N := N) (X := Xc) (Z := Z) (G := Gc) (l := lv) (s := N 9 (10 * t + k)) (m := behN N (10 * t + k)) (to := to) hX hN (by omega)
                    have hG : GB (lookG F N Xc Z Gc lv (N 9 (10 * t + k)) (behN N (10 * t + k)) to) := lookG_B (by omega) (by omega) hX hG hN (by omega)
                    have hg32 : (lookG F N Xc Z Gc lv (N 9 (10 * t + k)) (behN N (10 * t + k)) to) 32 ≤ 268435456 := hG 32
                    have hX : XB (up2 (up2 Xc 30 (160 * lv + (10 * t + k)) ((lookG F N Xc Z Gc lv (N 9 (10 * t + k)) (behN N (10 * t + k)) to) 32)) 31 (160 * lv + (10 * t + k)) ((lookG F N Xc Z Gc lv (N 9 (10 * t + k)) (behN N (10 * t + k)) to) 33)) := (hX.up (by show _ ≤ 268435456; exact hg32)).up (by show _ ≤ (160 * lv + (10 * t + k)) / 160; omega)
                    have hR := RI_put hR hN (by omega) (by omega) (by omega) hB.1 hB.2.1
                    have h37 : (up2 (up2 Xc 30 (160 * lv + (10 * t + k)) ((lookG F N Xc Z Gc lv (N 9 (10 * t + k)) (behN N (10 * t + k)) to) 32)) 31 (160 * lv + (10 * t + k)) ((lookG F N Xc Z Gc lv (N 9 (10 * t + k)) (behN N (10 * t + k)) to) 33)) 37 = X 37 := h37
                    have hW := hq
                    refine lv_iinc (v := iI ((k + 1 : Nat))) (lv' := [(4, .int (iI ((k + 1 : Nat)))), (5, .int (iI (((10 * t + k) : Nat)))), (3, .int (iI (t))), (2, .int (iI (lv))), (0, .ref o), (1, .int (iI (to)))]) hx hb dX2_reckon_74 hl (k := 1) rfl (iI_succ _) (by decide) rfl (fun ls hl => ?_)
                    refine lv_goto (tgt := 20) hx hb dX2_reckon_77 (by decide) ?_
                    exact ih20 (k + 1) (lookG F N Xc Z Gc lv (N 9 (10 * t + k)) (behN N (10 * t + k)) to) (up2 (up2 Xc 30 (160 * lv + (10 * t + k)) ((lookG F N Xc Z Gc lv (N 9 (10 * t + k)) (behN N (10 * t + k)) to) 32)) 31 (160 * lv + (10 * t + k)) ((lookG F N Xc Z Gc lv (N 9 (10 * t + k)) (behN N (10 * t + k)) to) 33)) (by omega) hG hX h37 hR (by omega) _ _ _ hW hS (lv_sub hl [0, 2, 3, 4, 5] rfl)
              exact lp20 _ (0) (Gc) (Xc) (by omega) hG hX h37 hR (Nat.lt_succ_self _) _ _ _ hW hS (lv_sub hl [0, 1, 2, 3, 4] rfl)
        exact lp9 _ (0) (Gc) (Xc) (by omega) hG hX h37 hR (Nat.lt_succ_self _) _ _ _ hW hS (lv_sub hl [0, 1, 2, 3] rfl)
  exact lp2 _ (0) (G) (X) (by omega) hG hX rfl RI_0 (Nat.lt_succ_self _) _ _ _ hW hS (lv_sub hl [0, 1, 2] rfl)
