set_option maxRecDepth 100000
set_option maxHeartbeats 4000000 in
set_option maxRecDepth 100000 in
theorem mm_lead (l : Launch) (D : va_G) (cA : Nat → ClassId) (A : Nat → Prop) (o : Nat) (ad : Nat → Nat) (F G : Nat → Nat) (N X : Nat → Nat → Nat) (Z : Nat → Int) (K : Nat) (hKb : K ≤ 1000000) (hF : FB F) (hG : GB G) (hN : NB N) (hX : XB X) (hZ : ZB K Z) (b sv mv : Nat) (hb60 : b < 60) (hs : sv ≤ 9) (hm : mv ≤ 2000) : Met l yX2_lead (ws_ yX2_lead cX2_lead 9 (some .boolean)) ({ frames := 6, cells := 0, slots := 0, locals := 155 }) (Pk D cA [.ref o, .int (iI (b)), .int (iI (sv)), .int (iI (mv))] (MW D cA A o ad F G N X Z)) (Qi (fun z H' => ∃ G' X', GB G' ∧ XB X' ∧ X' 37 = X 37 ∧ (hasW (F 3) N Z b sv mv → z = 1 ∧ NB (ledN (wayA (F 3) N Z b sv mv) (wayN N b)) ∧ MW D cA A o ad F G' (ledN (wayA (F 3) N Z b sv mv) (wayN N b)) X' Z H') ∧ (¬ hasW (F 3) N Z b sv mv → z = 0 ∧ MW D cA A o ad F G' N X' Z H')) A) 0 0 (A) := by
  refine Met.ofW (cc := cX2_lead) (maxL := 9) (ret := (some .boolean)) (by decide) rfl ?_
  intro p e s m args below meth c s₁ B hml hv
  obtain ⟨rfl, hK, hW⟩ := hv
  have hx := B.exec
  have hb := B.bytes
  have hr := B.returns
  have hts := atoms_spec (ws := ws_ yX2_lead cX2_lead 9 (some .boolean)) B.pre
  have hts : ∀ w ∈ lw_all, w.before _ s = true := fun w h => hts w (List.mem_cons_of_mem _ h)
  have hown : s.vm.findClass RX2 = some m.cls := findClass_of_methodNamed B.named
  have hlocks := B.notSynchronized
  have hl := lv_entry ([.ref o, .int (iI (b)), .int (iI (sv)), .int (iI (mv))]) (n := 9) (Nat.le_of_ble_eq_true rfl)
  rw [lg_entry_eq]
  generalize (lg_sl ([.ref o, .int (iI (b)), .int (iI (sv)), .int (iI (mv))]) ++ List.replicate (9 - (lg_sl ([.ref o, .int (iI (b)), .int (iI (sv)), .int (iI (mv))])).length) Slot.unset).toArray = ls at hl ⊢
  have hl : lv_has ls 9 [(0, .ref o), (1, .int (iI (b))), (2, .int (iI (sv))), (3, .int (iI (mv)))] := hl
  have hS : va_S A s.heap s.heap [] := va_S.rf
  have hF3 : F 3 ≤ 16 := hF 3
  have hN0 := hN
  have hto := toN_lt hN b
  have hw120 := wayN_lt hN (b := b) hb60
  have hm24 : N 24 (wayN N b) ≤ 3 := hN 24 _
  refine lv_aload_n hx hb dX2_lead_0 rfl (lv_at hl 0 rfl) ?_
  refine lv_iload_n hx hb dX2_lead_1 rfl (lv_at hl 1 rfl) ?_
  refine rc_V (W.runV (As := [.int (iI (b))]) (rest := []) ⟨hx, hb, hml, hown, hts⟩ (mm_wayOf l D cA A o ad F G N X Z K hKb hF hG hN hX hZ b (by omega)) (cwV 1 hts (lw_V q1125 q1127 qs18 q62 q1128) rfl rfl rfl (by decide +kernel) ⟨Nat.le_of_ble_eq_true rfl, Nat.le_of_ble_eq_true rfl⟩) (preV hK hW.1 rfl hW) rfl rfl hl.1 rfl (lv_room (Nat.le_of_ble_eq_true rfl)) dX2_lead_2 ⟨Nat.le_of_ble_eq_true rfl, Nat.le_of_ble_eq_true rfl⟩) ?_
  have b1 : wayN N b < 120 := wayN_lt hN (by omega)
  refine lv_istore (lv' := [(4, .int (iI (wayN N b))), (0, .ref o), (1, .int (iI (b))), (2, .int (iI (sv))), (3, .int (iI (mv)))]) hx hb dX2_lead_5 hl (by decide) rfl (fun ls hl => ?_)
  refine lv_aload_n hx hb dX2_lead_7 rfl (lv_at hl 1 rfl) ?_
  refine lv_iload_n hx hb dX2_lead_8 rfl (lv_at hl 2 rfl) ?_
  refine rc_V (W.runV (As := [.int (iI (b))]) (rest := []) ⟨hx, hb, hml, hown, hts⟩ (mm_toOf l D cA A o ad F G N X Z K hKb hF hG hN hX hZ b (by omega)) (cwV 1 hts (lw_V q1138 q1140 qs21 q62 q1141) rfl rfl rfl (by decide +kernel) ⟨Nat.le_of_ble_eq_true rfl, Nat.le_of_ble_eq_true rfl⟩) (preV hK hW.1 rfl hW) rfl rfl hl.1 rfl (lv_room (Nat.le_of_ble_eq_true rfl)) dX2_lead_9 ⟨Nat.le_of_ble_eq_true rfl, Nat.le_of_ble_eq_true rfl⟩) ?_
  have b2 : toN N b ≤ 9 := toN_lt hN _
  refine lv_istore (lv' := [(5, .int (iI (toN N b))), (4, .int (iI (wayN N b))), (0, .ref o), (1, .int (iI (b))), (2, .int (iI (sv))), (3, .int (iI (mv)))]) hx hb dX2_lead_12 hl (by decide) rfl (fun ls hl => ?_)
  refine lv_aload_n hx hb dX2_lead_14 rfl (lv_at hl 2 rfl) ?_
  refine lv_iload hx hb dX2_lead_15 (lv_at hl 0 rfl) ?_
  refine rc_N (W.runV (As := [.int (iI ((toN N b : Nat)))]) (rest := []) ⟨hx, hb, hml, hown, hts⟩ (mm_reckon l D cA A o ad F G N X Z K hKb hF hG hN hX hZ (toN N b) (by omega)) (cwV 1 hts (lw_V q1142 q1144 qs22 q62 q1145) rfl rfl rfl (by decide +kernel) ⟨Nat.le_of_ble_eq_true rfl, Nat.le_of_ble_eq_true rfl⟩) (preV hK hW.1 rfl hW) rfl rfl hl.1 rfl (lv_room (Nat.le_of_ble_eq_true rfl)) dX2_lead_17 ⟨Nat.le_of_ble_eq_true rfl, Nat.le_of_ble_eq_true rfl⟩) hS (fun _ _ h => h) (fun _ h => h) (fun H locs hq hS hz hk => ?_)
  obtain ⟨Gr, Xr, hG, hX, h37, hR, hW⟩ := hq
  refine lv_iconst (v := iI (3)) hx hb dX2_lead_20 rfl ?_
  refine lv_aload_n hx hb dX2_lead_21 rfl (lv_at hl 2 rfl) ?_
  refine m_get hx hb hts hown hK hW 24 (by decide) q998 rfl (v := .ref (ad 24)) rfl dX2_lead_22 ?_
  refine lv_iload hx hb dX2_lead_25 (lv_at hl 1 rfl) ?_
  refine h_iald hx hb hK hW.a24 (wayN N b) (by omega) (by omega) (by decide) dX2_lead_27 ?_
  have b3 : N 24 (wayN N b) ≤ 3 := hN 24 (wayN N b)
  refine ri_isub hx hb dX2_lead_28 ?_
  refine ri_top (b := (3 - N 24 (wayN N b) : Nat)) (by omega) ?_
  refine lv_istore (lv' := [(6, .int (iI ((3 - N 24 (wayN N b) : Nat)))), (5, .int (iI (toN N b))), (4, .int (iI (wayN N b))), (0, .ref o), (1, .int (iI (b))), (2, .int (iI (sv))), (3, .int (iI (mv)))]) hx hb dX2_lead_29 hl (by decide) rfl (fun ls hl => ?_)
  refine lv_aload_n hx hb dX2_lead_31 rfl (lv_at hl 3 rfl) ?_
  refine lv_iload hx hb dX2_lead_32 (lv_at hl 0 rfl) ?_
  refine lv_iload_n hx hb dX2_lead_34 rfl (lv_at hl 5 rfl) ?_
  refine lv_iload_n hx hb dX2_lead_35 rfl (lv_at hl 6 rfl) ?_
  refine lv_iload hx hb dX2_lead_36 (lv_at hl 1 rfl) ?_
  refine rc_N (W.runV (As := [.int (iI ((3 - N 24 (wayN N b) : Nat))), .int (iI (sv)), .int (iI (mv)), .int (iI ((toN N b : Nat)))]) (rest := []) ⟨hx, hb, hml, hown, hts⟩ (mm_look l D cA A o ad F Gr N Xr Z K hKb hF hG hN hX hZ (3 - N 24 (wayN N b)) sv mv (toN N b) (by omega) (by omega) (by omega) (by omega)) (cwV 4 hts (lw_V q1150 q1152 qs24 q62 q1153) rfl rfl rfl (by decide +kernel) ⟨Nat.le_of_ble_eq_true rfl, Nat.le_of_ble_eq_true rfl⟩) (preV hK hW.1 rfl hW) rfl rfl hl.1 rfl (lv_room (Nat.le_of_ble_eq_true rfl)) dX2_lead_38 ⟨Nat.le_of_ble_eq_true rfl, Nat.le_of_ble_eq_true rfl⟩) hS (fun _ _ h => h) (fun _ h => h) (fun H locs hq hS hz hk => ?_)
  have hW := hq
  have hG : GB (lookG F N Xr Z Gr (3 - N 24 (wayN N b)) sv mv (toN N b)) := lookG_B (by omega) (by omega) hX hG hN (by omega)
  have hbl := lookG_33 (F := F) (N := N) (Z := Z) (G := Gr) (l := 3 - N 24 (wayN N b)) (s := sv) (m := mv) (to := toN N b) hX hN (by omega)
  have hI := lookG_is (F := F) (N := N) (X := Xr) (Z := Z) (G := Gr) (l := 3 - N 24 (wayN N b)) (s := sv) (m := mv) (to := (toN N b)) (by omega) (RI_mono hR (by omega)) hN (by omega)
  generalize lookG F N Xr Z Gr (3 - N 24 (wayN N b)) sv mv (toN N b) = G1 at hW hG hI hbl
  refine lv_aload_n hx hb dX2_lead_41 rfl (lv_at hl 3 rfl) ?_
  refine m_get hx hb hts hown hK hW 32 (by decide) q1006 rfl (v := .int (iI (G1 32))) rfl dX2_lead_42 ?_
  have b4 : G1 32 ≤ 268435456 := hG 32
  refine lv_ldc (v := iI (268435456)) hx hb hown (show (Cond.constant RX2 153 (iI (268435456))).before _ s = true from hts _ q1154) dX2_lead_45 ?_
  refine ri_icmp_lt (tgt := 52) hx hb (by unfold inR; omega) (by unfold inR; omega) dX2_lead_47 (by decide) (fun h5 => ?_) (fun h5 => ?_)
  · skip
    have hyes : hasW (F 3) N Z b sv mv := by have := hI.1; unfold hasW; omega
    have lp52 : ∀ (fuel : Nat) (lv s1 m1 : Nat) (Gc : Nat → Nat) (Nc : Nat → Nat → Nat) (hlv : lv + Nc 24 (wayN N b) = 3) (hG : GB Gc) (hN : NB Nc) (he : eqT N Nc) (hI : isB Gc (lkV (F 3) N Z (toN N b) lv s1 m1)) (hA : (wayL (F 3) N Z (toN N b) lv s1 m1).foldl (addL (wayN N b)) Nc = wayA (F 3) N Z b sv mv), lv < fuel → ∀ (H : Heap) (locs : List Loc) (ls : Array Slot), MW D cA A o ad F Gc Nc Xr Z H → va_S A s.heap H locs → lv_has ls 9 [(6, .int (iI (lv))), (5, .int (iI (toN N b))), (4, .int (iI (wayN N b))), (0, .ref o), (1, .int (iI (b))), (2, .int (iI (sv))), (3, .int (iI (mv)))] → W p l e (headSpec (ws_ yX2_lead cX2_lead 9 (some .boolean)) ({ frames := 6, cells := 0, slots := 0, locals := 155 })).room s m ([.ref o, .int (iI (b)), .int (iI (sv)), .int (iI (mv))] : List Value).toArray below meth c H locs 0 0 (MQ below (Qi (fun z H' => ∃ G' X', GB G' ∧ XB X' ∧ X' 37 = X 37 ∧ (hasW (F 3) N Z b sv mv → z = 1 ∧ NB (ledN (wayA (F 3) N Z b sv mv) (wayN N b)) ∧ MW D cA A o ad F G' (ledN (wayA (F 3) N Z b sv mv) (wayN N b)) X' Z H') ∧ (¬ hasW (F 3) N Z b sv mv → z = 0 ∧ MW D cA A o ad F G' N X' Z H')) A) ([.ref o, .int (iI (b)), .int (iI (sv)), .int (iI (mv))] : List Value).toArray s 0 0 (A)) (F0 m 52 ls []) := by
      intro fuel
      induction fuel with
      | zero => intro lv s1 m1 Gc Nc hlv hG hN he hI hA hm; exact absurd hm (Nat.not_lt_zero _)
      | succ fuel ih52 =>
        intro lv s1 m1 Gc Nc hlv hG hN he hI hA hm52 H locs ls hW hS hl
        refine lv_aload_n hx hb dX2_lead_52 rfl (lv_at hl 3 rfl) ?_
        refine m_get hx hb hts hown hK hW 34 (by decide) q1008 rfl (v := .int (iI (((Gc 34 : Nat) : Int) - 1))) rfl dX2_lead_53 ?_
        have b6 : Gc 34 ≤ 16 := hG 34
        refine lv_iconst (v := iI (-1)) hx hb dX2_lead_56 rfl ?_
        refine ri_icmp_eq (tgt := 172) hx hb (by unfold inR; omega) (by unfold inR; omega) dX2_lead_57 (by decide) (fun h7 => ?_) (fun h7 => ?_)
        · skip
          have hnil := wayL_nil (T := F 3) (N := N) (Z := Z) (to := (toN N b)) (l := lv) (s := s1) (m := m1) (by have := hI.2.2.1; omega)
          rw [hnil] at hA
          have hA : Nc = wayA (F 3) N Z b sv mv := hA
          refine lv_aload_n hx hb dX2_lead_172 rfl (lv_at hl 3 rfl) ?_
          refine m_get hx hb hts hown hK hW 22 (by decide) q996 rfl (v := .ref (ad 22)) rfl dX2_lead_173 ?_
          refine lv_iload hx hb dX2_lead_176 (lv_at hl 2 rfl) ?_
          refine lv_iconst (v := iI (1)) hx hb dX2_lead_178 rfl ?_
          refine m_stZ hx hb hK hW hS 22 (by unfold isA; omega) (by omega) rfl (by omega) (wayN N b) (by omega) (by show _ < 120; omega) (1) (by omega) dX2_lead_179 (fun H locs hW hS => ?_)
          have hN : NB (up2 (Nc) 22 (wayN N b) (1)) := hN.up (by show 1 ≤ 1; omega)
          refine lv_aload_n hx hb dX2_lead_180 rfl (lv_at hl 3 rfl) ?_
          refine m_get hx hb hts hown hK hW 23 (by decide) q997 rfl (v := .ref (ad 23)) rfl dX2_lead_181 ?_
          refine lv_iload hx hb dX2_lead_184 (lv_at hl 2 rfl) ?_
          refine lv_iconst (v := iI (1)) hx hb dX2_lead_186 rfl ?_
          refine m_stZ hx hb hK hW hS 23 (by unfold isA; omega) (by omega) rfl (by omega) (wayN N b) (by omega) (by show _ < 120; omega) (1) (by omega) dX2_lead_187 (fun H locs hW hS => ?_)
          have hN : NB (up2 (up2 (Nc) 22 (wayN N b) (1)) 23 (wayN N b) (1)) := hN.up (by show 1 ≤ 1; omega)
          refine lv_aload_n hx hb dX2_lead_188 rfl (lv_at hl 3 rfl) ?_
          refine m_get hx hb hts hown hK hW 25 (by decide) q999 rfl (v := .ref (ad 25)) rfl dX2_lead_189 ?_
          refine lv_iload hx hb dX2_lead_192 (lv_at hl 2 rfl) ?_
          refine lv_iconst (v := iI (-1)) hx hb dX2_lead_194 rfl ?_
          refine m_st25 hx hb hK hW hS (wayN N b) (by omega) (by omega) (0) (by omega) dX2_lead_195 (fun H locs hW hS => ?_)
          have hN : NB (up2 (up2 (up2 (Nc) 22 (wayN N b) (1)) 23 (wayN N b) (1)) 25 (wayN N b) (0)) := hN.up (by show 0 ≤ 10; omega)
          refine lv_iconst (v := iI (1)) hx hb dX2_lead_196 rfl ?_
          exact W.zret hx hb hr (by rfl) (fun t ht hWm => ⟨⟨_, rfl, by rw [ht]; exact ⟨Gc, Xr, hG, hX, h37, fun _ => ⟨rfl, (by rw [← hA]; exact hN), (by rw [← hA]; exact hW)⟩, fun q => absurd hyes q⟩⟩, hS.F ht⟩) hS.2.2 dX2_lead_197
        · skip
          have hg0 : Gc 34 ≠ 0 := by omega
          have hne : (lkV (F 3) N Z (toN N b) lv s1 m1).2.2.1 ≠ 0 := by have := hI.2.2.1; omega
          have hlv1 := (wayL_cons hne).1
          refine lv_iload hx hb dX2_lead_60 (lv_at hl 2 rfl) ?_
          refine lv_aload_n hx hb dX2_lead_62 rfl (lv_at hl 3 rfl) ?_
          refine m_get hx hb hts hown hK hW 24 (by decide) q998 rfl (v := .ref (ad 24)) rfl dX2_lead_63 ?_
          refine lv_iload hx hb dX2_lead_66 (lv_at hl 2 rfl) ?_
          refine h_iald hx hb hK hW.a24 (wayN N b) (by omega) (by omega) (by decide) dX2_lead_68 ?_
          have b8 : Nc 24 (wayN N b) ≤ 3 := hN 24 (wayN N b)
          refine rc_V (W.runS (As := [.int (iI (wayN N b)), .int (iI (Nc 24 (wayN N b)))]) (rest := []) ⟨hx, hb, hml, hown, hts⟩ (mm_legAt l D cA (wayN N b) (Nc 24 (wayN N b)) ) (va_cwS 2 hts (lw_S q1163 q1164 q62 q1165) rfl rfl rfl (by decide +kernel) ⟨Nat.le_of_ble_eq_true rfl, Nat.le_of_ble_eq_true rfl⟩) (preS hK (B := fun _ => True) trivial) rfl rfl hl.1 rfl (lv_room (Nat.le_of_ble_eq_true rfl)) dX2_lead_69 ⟨Nat.le_of_ble_eq_true rfl, Nat.le_of_ble_eq_true rfl⟩) ?_
          refine ri_top (b := (3 * wayN N b + Nc 24 (wayN N b) : Nat)) (by omega) ?_
          refine lv_istore (lv' := [(7, .int (iI ((3 * wayN N b + Nc 24 (wayN N b) : Nat)))), (6, .int (iI (lv))), (5, .int (iI (toN N b))), (4, .int (iI (wayN N b))), (0, .ref o), (1, .int (iI (b))), (2, .int (iI (sv))), (3, .int (iI (mv)))]) hx hb dX2_lead_72 hl (by decide) rfl (fun ls hl => ?_)
          refine lv_aload_n hx hb dX2_lead_74 rfl (lv_at hl 4 rfl) ?_
          refine m_get hx hb hts hown hK hW 27 (by decide) q1001 rfl (v := .ref (ad 27)) rfl dX2_lead_75 ?_
          refine lv_iload hx hb dX2_lead_78 (lv_at hl 0 rfl) ?_
          refine lv_aload_n hx hb dX2_lead_80 rfl (lv_at hl 4 rfl) ?_
          refine m_get hx hb hts hown hK hW 34 (by decide) q1008 rfl (v := .int (iI (((Gc 34 : Nat) : Int) - 1))) rfl dX2_lead_81 ?_
          refine m_st hx hb hK hW hS 27 (by unfold isA; omega) (by omega) rfl ((3 * wayN N b + Nc 24 (wayN N b) : Nat)) (by omega) (by show _ < 360; omega) (Gc 34 - 1) (by omega) dX2_lead_84 (fun H locs hW hS => ?_)
          have hN : NB (up2 (Nc) 27 ((3 * wayN N b + Nc 24 (wayN N b) : Nat)) (Gc 34 - 1)) := hN.up (by show (Gc 34 - 1) ≤ 15; omega)
          refine lv_aload_n hx hb dX2_lead_85 rfl (lv_at hl 4 rfl) ?_
          refine m_get hx hb hts hown hK hW 28 (by decide) q1002 rfl (v := .ref (ad 28)) rfl dX2_lead_86 ?_
          refine lv_iload hx hb dX2_lead_89 (lv_at hl 0 rfl) ?_
          refine lv_aload_n hx hb dX2_lead_91 rfl (lv_at hl 4 rfl) ?_
          refine m_get hx hb hts hown hK hW 35 (by decide) q1009 rfl (v := .int (iI (Gc 35))) rfl dX2_lead_92 ?_
          have b9 : Gc 35 ≤ 9 := hG 35
          refine m_st hx hb hK hW hS 28 (by unfold isA; omega) (by omega) rfl ((3 * wayN N b + Nc 24 (wayN N b) : Nat)) (by omega) (by show _ < 360; omega) (Gc 35) (by omega) dX2_lead_95 (fun H locs hW hS => ?_)
          have hN : NB (up2 (up2 (Nc) 27 ((3 * wayN N b + Nc 24 (wayN N b) : Nat)) (Gc 34 - 1)) 28 ((3 * wayN N b + Nc 24 (wayN N b) : Nat)) (Gc 35)) := hN.up (by show (Gc 35) ≤ 9; omega)
          refine lv_aload_n hx hb dX2_lead_96 rfl (lv_at hl 4 rfl) ?_
          refine m_get hx hb hts hown hK hW 29 (by decide) q1003 rfl (v := .ref (ad 29)) rfl dX2_lead_97 ?_
          refine lv_iload hx hb dX2_lead_100 (lv_at hl 0 rfl) ?_
          refine lv_aload_n hx hb dX2_lead_102 rfl (lv_at hl 4 rfl) ?_
          refine m_get hx hb hts hown hK hW 36 (by decide) q1010 rfl (v := .int (iI (Gc 36))) rfl dX2_lead_103 ?_
          have b10 : Gc 36 ≤ 9 := hG 36
          refine m_st hx hb hK hW hS 29 (by unfold isA; omega) (by omega) rfl ((3 * wayN N b + Nc 24 (wayN N b) : Nat)) (by omega) (by show _ < 360; omega) (Gc 36) (by omega) dX2_lead_106 (fun H locs hW hS => ?_)
          have hN : NB (up2 (up2 (up2 (Nc) 27 ((3 * wayN N b + Nc 24 (wayN N b) : Nat)) (Gc 34 - 1)) 28 ((3 * wayN N b + Nc 24 (wayN N b) : Nat)) (Gc 35)) 29 ((3 * wayN N b + Nc 24 (wayN N b) : Nat)) (Gc 36)) := hN.up (by show (Gc 36) ≤ 9; omega)
          refine lv_aload_n hx hb dX2_lead_107 rfl (lv_at hl 4 rfl) ?_
          refine m_get hx hb hts hown hK hW 24 (by decide) q998 rfl (v := .ref (ad 24)) rfl dX2_lead_108 ?_
          refine lv_iload hx hb dX2_lead_111 (lv_at hl 3 rfl) ?_
          refine lv_dup2_11 hx hb dX2_lead_113 rfl rfl ?_
          refine h_iald hx hb hK hW.a24 (wayN N b) (by omega) (by omega) (by decide) dX2_lead_114 ?_
          refine ri_top (b := Nc 24 (wayN N b)) rfl ?_
          refine lv_iconst (v := iI (1)) hx hb dX2_lead_115 rfl ?_
          refine ri_iadd hx hb dX2_lead_116 ?_
          refine m_st hx hb hK hW hS 24 (by unfold isA; omega) (by omega) rfl (wayN N b) (by omega) (by show _ < 120; omega) ((Nc 24 (wayN N b)) + 1) (by omega) dX2_lead_117 (fun H locs hW hS => ?_)
          have hN : NB (up2 (up2 (up2 (up2 (Nc) 27 ((3 * wayN N b + Nc 24 (wayN N b) : Nat)) (Gc 34 - 1)) 28 ((3 * wayN N b + Nc 24 (wayN N b) : Nat)) (Gc 35)) 29 ((3 * wayN N b + Nc 24 (wayN N b) : Nat)) (Gc 36)) 24 (wayN N b) ((Nc 24 (wayN N b)) + 1)) := hN.up (by show ((Nc 24 (wayN N b)) + 1) ≤ 3; omega)
          have hW : MW D cA A o ad F Gc (addL (wayN N b) Nc (Gc 34 - 1, Gc 35, Gc 36)) Xr Z H := hW
          have hN : NB (addL (wayN N b) Nc (Gc 34 - 1, Gc 35, Gc 36)) := hN
          have he : eqT N (addL (wayN N b) Nc (Gc 34 - 1, Gc 35, Gc 36)) := he.addL _ _
          refine lv_iinc (v := iI ((lv - 1 : Nat))) (lv' := [(6, .int (iI ((lv - 1 : Nat)))), (7, .int (iI ((3 * wayN N b + Nc 24 (wayN N b) : Nat)))), (5, .int (iI (toN N b))), (4, .int (iI (wayN N b))), (0, .ref o), (1, .int (iI (b))), (2, .int (iI (sv))), (3, .int (iI (mv)))]) hx hb dX2_lead_118 hl (k := 1) rfl (by rw [show ((lv - 1 : Nat) : Int) = (lv : Int) + (-1) by omega]; exact iI_add _ _) (by decide) rfl (fun ls hl => ?_)
          refine lv_aload_n hx hb dX2_lead_121 rfl (lv_at hl 4 rfl) ?_
          refine m_get hx hb hts hown hK hW 34 (by decide) q1008 rfl (v := .int (iI (((Gc 34 : Nat) : Int) - 1))) rfl dX2_lead_122 ?_
          refine lv_aload_n hx hb dX2_lead_125 rfl (lv_at hl 4 rfl) ?_
          refine m_get hx hb hts hown hK hW 36 (by decide) q1010 rfl (v := .int (iI (Gc 36))) rfl dX2_lead_126 ?_
          refine rc_V (W.runS (As := [.int (iI ((Gc 34 : Int) - 1)), .int (iI (Gc 36))]) (rest := []) ⟨hx, hb, hml, hown, hts⟩ (mm_node l D cA ((Gc 34 : Int) - 1) (Gc 36) ) (va_cwS 2 hts (lw_S q1114 q1115 q62 q1116) rfl rfl rfl (by decide +kernel) ⟨Nat.le_of_ble_eq_true rfl, Nat.le_of_ble_eq_true rfl⟩) (preS hK (B := fun _ => True) trivial) rfl rfl hl.1 rfl (lv_room (Nat.le_of_ble_eq_true rfl)) dX2_lead_129 ⟨Nat.le_of_ble_eq_true rfl, Nat.le_of_ble_eq_true rfl⟩) ?_
          refine ri_top (b := ((10 * (Gc 34 - 1) + Gc 36) : Nat)) (by omega) ?_
          refine lv_istore (lv' := [(8, .int (iI (((10 * (Gc 34 - 1) + Gc 36) : Nat)))), (6, .int (iI ((lv - 1 : Nat)))), (7, .int (iI ((3 * wayN N b + Nc 24 (wayN N b) : Nat)))), (5, .int (iI (toN N b))), (4, .int (iI (wayN N b))), (0, .ref o), (1, .int (iI (b))), (2, .int (iI (sv))), (3, .int (iI (mv)))]) hx hb dX2_lead_132 hl (by decide) rfl (fun ls hl => ?_)
          refine lv_aload_n hx hb dX2_lead_134 rfl (lv_at hl 5 rfl) ?_
          refine lv_iload hx hb dX2_lead_135 (lv_at hl 1 rfl) ?_
          refine lv_aload_n hx hb dX2_lead_137 rfl (lv_at hl 5 rfl) ?_
          refine m_get hx hb hts hown hK hW 9 (by decide) q983 rfl (v := .ref (ad 9)) rfl dX2_lead_138 ?_
          refine lv_iload hx hb dX2_lead_141 (lv_at hl 0 rfl) ?_
          refine h_iald hx hb hK hW.a9 ((10 * (Gc 34 - 1) + Gc 36)) (by omega) (by omega) (by decide) dX2_lead_143 ?_
          have b11 : (addL (wayN N b) Nc (Gc 34 - 1, Gc 35, Gc 36)) 9 ((10 * (Gc 34 - 1) + Gc 36)) ≤ 9 := hN 9 ((10 * (Gc 34 - 1) + Gc 36))
          refine ri_top (b := N 9 (10 * (Gc 34 - 1) + Gc 36)) (by rw [he.2.2.2.1]) ?_
          have hb9 : N 9 (10 * (Gc 34 - 1) + Gc 36) ≤ 9 := hN0 9 _
          refine lv_aload_n hx hb dX2_lead_144 rfl (lv_at hl 5 rfl) ?_
          refine m_get hx hb hts hown hK hW 10 (by decide) q984 rfl (v := .ref (ad 10)) rfl dX2_lead_145 ?_
          refine lv_iload hx hb dX2_lead_148 (lv_at hl 0 rfl) ?_
          refine h_iald hx hb hK hW.a10 ((10 * (Gc 34 - 1) + Gc 36)) (by omega) (by omega) (by decide) dX2_lead_150 ?_
          have b12 : (addL (wayN N b) Nc (Gc 34 - 1, Gc 35, Gc 36)) 10 ((10 * (Gc 34 - 1) + Gc 36)) ≤ 1439 := hN 10 ((10 * (Gc 34 - 1) + Gc 36))
          refine ri_top (b := N 10 (10 * (Gc 34 - 1) + Gc 36)) (by rw [he.2.2.2.2.1]) ?_
          refine lv_aload_n hx hb dX2_lead_151 rfl (lv_at hl 5 rfl) ?_
          refine m_get hx hb hts hown hK hW 6 (by decide) q980 rfl (v := .ref (ad 6)) rfl dX2_lead_152 ?_
          refine lv_aload_n hx hb dX2_lead_155 rfl (lv_at hl 5 rfl) ?_
          refine m_get hx hb hts hown hK hW 9 (by decide) q983 rfl (v := .ref (ad 9)) rfl dX2_lead_156 ?_
          refine lv_iload hx hb dX2_lead_159 (lv_at hl 0 rfl) ?_
          refine h_iald hx hb hK hW.a9 ((10 * (Gc 34 - 1) + Gc 36)) (by omega) (by omega) (by decide) dX2_lead_161 ?_
          refine ri_top (b := N 9 (10 * (Gc 34 - 1) + Gc 36)) (by rw [he.2.2.2.1]) ?_
          refine h_iald hx hb hK hW.a6 (N 9 (10 * (Gc 34 - 1) + Gc 36)) (by omega) (by omega) (by decide) dX2_lead_162 ?_
          have b13 : (addL (wayN N b) Nc (Gc 34 - 1, Gc 35, Gc 36)) 6 (N 9 (10 * (Gc 34 - 1) + Gc 36)) ≤ 60 := hN 6 (N 9 (10 * (Gc 34 - 1) + Gc 36))
          refine ri_top (b := N 6 (N 9 (10 * (Gc 34 - 1) + Gc 36))) (by rw [he.1]) ?_
          refine ri_iadd hx hb dX2_lead_163 ?_
          refine ri_top (b := (behN N (10 * (Gc 34 - 1) + Gc 36) : Nat)) (by unfold behN; omega) ?_
          have hbb := behN_le hN0 (10 * (Gc 34 - 1) + Gc 36)
          refine lv_iload hx hb dX2_lead_164 (lv_at hl 3 rfl) ?_
          refine rc_N (W.runV (As := [.int (iI ((lv - 1 : Nat))), .int (iI ((N 9 (10 * (Gc 34 - 1) + Gc 36) : Nat))), .int (iI ((behN N (10 * (Gc 34 - 1) + Gc 36) : Nat))), .int (iI ((toN N b : Nat)))]) (rest := []) ⟨hx, hb, hml, hown, hts⟩ (mm_look l D cA A o ad F Gc (addL (wayN N b) Nc (Gc 34 - 1, Gc 35, Gc 36)) Xr Z K hKb hF hG hN hX hZ (lv - 1) (N 9 (10 * (Gc 34 - 1) + Gc 36)) (behN N (10 * (Gc 34 - 1) + Gc 36)) (toN N b) (by omega) (by omega) (by omega) (by omega)) (cwV 4 hts (lw_V q1150 q1152 qs24 q62 q1153) rfl rfl rfl (by decide +kernel) ⟨Nat.le_of_ble_eq_true rfl, Nat.le_of_ble_eq_true rfl⟩) (preV hK hW.1 rfl hW) rfl rfl hl.1 rfl (lv_room (Nat.le_of_ble_eq_true rfl)) dX2_lead_166 ⟨Nat.le_of_ble_eq_true rfl, Nat.le_of_ble_eq_true rfl⟩) hS (fun _ _ h => h) (fun _ h => h) (fun H locs hq hS hz hk => ?_)
          have hW := hq
          have hG : GB (lookG F (addL (wayN N b) Nc (Gc 34 - 1, Gc 35, Gc 36)) Xr Z Gc (lv - 1) (N 9 (10 * (Gc 34 - 1) + Gc 36)) (behN N (10 * (Gc 34 - 1) + Gc 36)) (toN N b)) := lookG_B (by omega) (by omega) hX hG hN (by omega)
          have hbl := lookG_33 (F := F) (N := addL (wayN N b) Nc (Gc 34 - 1, Gc 35, Gc 36)) (Z := Z) (G := Gc) (l := lv - 1) (s := N 9 (10 * (Gc 34 - 1) + Gc 36)) (m := behN N (10 * (Gc 34 - 1) + Gc 36)) (to := toN N b) hX hN (by omega)
          have hI2 := lookG_is (F := F) (N := addL (wayN N b) Nc (Gc 34 - 1, Gc 35, Gc 36)) (X := Xr) (Z := Z) (G := Gc) (l := lv - 1) (s := N 9 (10 * (Gc 34 - 1) + Gc 36)) (m := behN N (10 * (Gc 34 - 1) + Gc 36)) (to := (toN N b)) (by omega) (RI_mono (RI_eqT hR he) (by omega)) hN (by omega)
          rw [he.lV] at hI2
          generalize lookG F (addL (wayN N b) Nc (Gc 34 - 1, Gc 35, Gc 36)) Xr Z Gc (lv - 1) (N 9 (10 * (Gc 34 - 1) + Gc 36)) (behN N (10 * (Gc 34 - 1) + Gc 36)) (toN N b) = G2 at hW hG hI2 hbl
          refine lv_goto (tgt := 52) hx hb dX2_lead_169 (by decide) ?_
          have hA2 := hA
          rw [(wayL_cons hne).2, List.foldl_cons, ← hI.2.2.1, ← (hI.2.2.2 hg0).1, ← (hI.2.2.2 hg0).2] at hA2
          have h24 : (addL (wayN N b) Nc (Gc 34 - 1, Gc 35, Gc 36)) 24 (wayN N b) = Nc 24 (wayN N b) + 1 := up2_eq _ _ _ _
          exact ih52 (lv - 1) (N 9 (10 * (Gc 34 - 1) + Gc 36)) (behN N (10 * (Gc 34 - 1) + Gc 36)) (G2) (addL (wayN N b) Nc (Gc 34 - 1, Gc 35, Gc 36)) (by omega) hG hN he hI2 hA2 (by omega) _ _ _ hW hS (lv_sub hl [1, 3, 4, 5, 6, 7, 8] rfl)
    exact lp52 _ (3 - N 24 (wayN N b)) (sv) (mv) (G1) (N) (by omega) hG hN (eqT.rf N) hI rfl (Nat.lt_succ_self _) _ _ _ hW hS (lv_sub hl [0, 1, 2, 3, 4, 5, 6] rfl)
  · skip
    refine lv_iconst (v := iI (0)) hx hb dX2_lead_50 rfl ?_
    exact W.zret hx hb hr (by rfl) (fun t ht hWm => ⟨⟨_, rfl, by rw [ht]; exact ⟨G1, Xr, hG, hX, h37, fun q => absurd q (by have := hI.1; unfold hasW; omega), fun _ => ⟨rfl, hW⟩⟩⟩, hS.F ht⟩) hS.2.2 dX2_lead_51

set_option maxHeartbeats 4000000 in
set_option maxRecDepth 100000 in
theorem mm_leadOn (l : Launch) (D : va_G) (cA : Nat → ClassId) (A : Nat → Prop) (o : Nat) (ad : Nat → Nat) (F G : Nat → Nat) (N X : Nat → Nat → Nat) (Z : Nat → Int) (K : Nat) (hKb : K ≤ 1000000) (hF : FB F) (hG : GB G) (hN : NB N) (hX : XB X) (hZ : ZB K Z) (b sv mv : Nat) (hb60 : b < 60) (hs : sv ≤ 9) (hm : mv ≤ 2000) (hK3 : K + 3 ≤ 1000000) : Met l yX2_leadOn (ws_ yX2_leadOn cX2_leadOn 7 (some .boolean)) ({ frames := 7, cells := 0, slots := 0, locals := 183 }) (Pk D cA [.ref o, .int (iI (b)), .int (iI (sv)), .int (iI (mv))] (MW D cA A o ad F G N X Z)) (Qi (fun z H' => ∃ G' X', GB G' ∧ XB X' ∧ X' 37 = X 37 ∧ z = (ldOn (F 3) N Z b sv mv).2.2 ∧ NB (ldOn (F 3) N Z b sv mv).1 ∧ ZB (K + 3) (ldOn (F 3) N Z b sv mv).2.1 ∧ MW D cA A o ad F G' (ldOn (F 3) N Z b sv mv).1 X' (ldOn (F 3) N Z b sv mv).2.1 H') A) 0 0 (A) := by
  refine Met.ofW (cc := cX2_leadOn) (maxL := 7) (ret := (some .boolean)) (by decide) rfl ?_
  intro p e s m args below meth c s₁ B hml hv
  obtain ⟨rfl, hK, hW⟩ := hv
  have hx := B.exec
  have hb := B.bytes
  have hr := B.returns
  have hts := atoms_spec (ws := ws_ yX2_leadOn cX2_leadOn 7 (some .boolean)) B.pre
  have hts : ∀ w ∈ lw_all, w.before _ s = true := fun w h => hts w (List.mem_cons_of_mem _ h)
  have hown : s.vm.findClass RX2 = some m.cls := findClass_of_methodNamed B.named
  have hlocks := B.notSynchronized
  have hl := lv_entry ([.ref o, .int (iI (b)), .int (iI (sv)), .int (iI (mv))]) (n := 7) (Nat.le_of_ble_eq_true rfl)
  rw [lg_entry_eq]
  generalize (lg_sl ([.ref o, .int (iI (b)), .int (iI (sv)), .int (iI (mv))]) ++ List.replicate (7 - (lg_sl ([.ref o, .int (iI (b)), .int (iI (sv)), .int (iI (mv))])).length) Slot.unset).toArray = ls at hl ⊢
  have hl : lv_has ls 7 [(0, .ref o), (1, .int (iI (b))), (2, .int (iI (sv))), (3, .int (iI (mv)))] := hl
  have hS : va_S A s.heap s.heap [] := va_S.rf
  have hF3 : F 3 ≤ 16 := hF 3
  have hw120 := wayN_lt hN (b := b) hb60
  have hm24 : N 24 (wayN N b) ≤ 3 := hN 24 _
  refine lv_aload_n hx hb dX2_leadOn_0 rfl (lv_at hl 0 rfl) ?_
  refine lv_iload_n hx hb dX2_leadOn_1 rfl (lv_at hl 1 rfl) ?_
  refine rc_V (W.runV (As := [.int (iI (b))]) (rest := []) ⟨hx, hb, hml, hown, hts⟩ (mm_wayOf l D cA A o ad F G N X Z K hKb hF hG hN hX hZ b (by omega)) (cwV 1 hts (lw_V q1125 q1127 qs18 q62 q1128) rfl rfl rfl (by decide +kernel) ⟨Nat.le_of_ble_eq_true rfl, Nat.le_of_ble_eq_true rfl⟩) (preV hK hW.1 rfl hW) rfl rfl hl.1 rfl (lv_room (Nat.le_of_ble_eq_true rfl)) dX2_leadOn_2 ⟨Nat.le_of_ble_eq_true rfl, Nat.le_of_ble_eq_true rfl⟩) ?_
  have b1 : wayN N b < 120 := wayN_lt hN (by omega)
  refine lv_istore (lv' := [(4, .int (iI (wayN N b))), (0, .ref o), (1, .int (iI (b))), (2, .int (iI (sv))), (3, .int (iI (mv)))]) hx hb dX2_leadOn_5 hl (by decide) rfl (fun ls hl => ?_)
  refine lv_aload_n hx hb dX2_leadOn_7 rfl (lv_at hl 1 rfl) ?_
  refine m_get hx hb hts hown hK hW 24 (by decide) q998 rfl (v := .ref (ad 24)) rfl dX2_leadOn_8 ?_
  refine lv_iload hx hb dX2_leadOn_11 (lv_at hl 0 rfl) ?_
  refine h_iald hx hb hK hW.a24 (wayN N b) (by omega) (by omega) (by decide) dX2_leadOn_13 ?_
  have b2 : N 24 (wayN N b) ≤ 3 := hN 24 (wayN N b)
  refine lv_istore (lv' := [(5, .int (iI (N 24 (wayN N b)))), (4, .int (iI (wayN N b))), (0, .ref o), (1, .int (iI (b))), (2, .int (iI (sv))), (3, .int (iI (mv)))]) hx hb dX2_leadOn_14 hl (by decide) rfl (fun ls hl => ?_)
  refine lv_aload_n hx hb dX2_leadOn_16 rfl (lv_at hl 2 rfl) ?_
  refine lv_iload_n hx hb dX2_leadOn_17 rfl (lv_at hl 3 rfl) ?_
  refine lv_iload_n hx hb dX2_leadOn_18 rfl (lv_at hl 4 rfl) ?_
  refine lv_iload_n hx hb dX2_leadOn_19 rfl (lv_at hl 5 rfl) ?_
  refine rc_I (W.runV (As := [.int (iI (b)), .int (iI (sv)), .int (iI (mv))]) (rest := []) ⟨hx, hb, hml, hown, hts⟩ (mm_lead l D cA A o ad F G N X Z K hKb hF hG hN hX hZ b sv mv (by omega) (by omega) (by omega)) (cwV 3 hts (lw_V q1134 q1136 qs20 q62 q1137) rfl rfl rfl (by decide +kernel) ⟨Nat.le_of_ble_eq_true rfl, Nat.le_of_ble_eq_true rfl⟩) (preV hK hW.1 rfl hW) rfl rfl hl.1 rfl (lv_room (Nat.le_of_ble_eq_true rfl)) dX2_leadOn_20 ⟨Nat.le_of_ble_eq_true rfl, Nat.le_of_ble_eq_true rfl⟩) hS (fun _ _ h => h) (fun _ h => h) (fun z H locs hq hS hz hk => ?_)
  obtain ⟨Gr, Xr, hG, hX, h37, hyes, hno⟩ := hq
  by_cases hc : hasW (F 3) N Z b sv mv
  · skip
    obtain ⟨rfl, hN2, hW⟩ := hyes hc
    have hN0 := hN
    have hN := hN2
    have h24 : (ledN (wayA (F 3) N Z b sv mv) (wayN N b)) 24 (wayN N b) = (wayA (F 3) N Z b sv mv) 24 (wayN N b) := rfl
    have h24b : (wayA (F 3) N Z b sv mv) 24 (wayN N b) = N 24 (wayN N b) + _ := addL_24 _ _
    have hZ3 := ldZ_B (N := (ledN (wayA (F 3) N Z b sv mv) (wayN N b))) (w := wayN N b) (v := 1) (by decide) (by decide) (a := N 24 (wayN N b)) ((wayA (F 3) N Z b sv mv) 24 (wayN N b) - N 24 (wayN N b)) Z hZ
    have h24c : (ledN (wayA (F 3) N Z b sv mv) (wayN N b)) 24 (wayN N b) ≤ 3 := hN 24 _
    refine lv_istore (lv' := [(6, .int (iI (1))), (5, .int (iI (N 24 (wayN N b)))), (4, .int (iI (wayN N b))), (0, .ref o), (1, .int (iI (b))), (2, .int (iI (sv))), (3, .int (iI (mv)))]) hx hb dX2_leadOn_23 hl (by decide) rfl (fun ls hl => ?_)
    refine lv_aload_n hx hb dX2_leadOn_25 rfl (lv_at hl 3 rfl) ?_
    refine lv_iload hx hb dX2_leadOn_26 (lv_at hl 2 rfl) ?_
    refine lv_iload hx hb dX2_leadOn_28 (lv_at hl 1 rfl) ?_
    refine lv_iconst (v := iI (1)) hx hb dX2_leadOn_30 rfl ?_
    refine rc_N (W.runV (As := [.int (iI ((wayN N b : Nat))), .int (iI ((N 24 (wayN N b) : Nat))), .int (iI (1))]) (rest := []) ⟨hx, hb, hml, hown, hts⟩ (mm_load0 l D cA A o ad F Gr ((ledN (wayA (F 3) N Z b sv mv) (wayN N b))) Xr Z K hKb hF hG hN hX hZ (wayN N b) (N 24 (wayN N b)) 1 (by omega) (by omega) (by decide) (by decide) (by omega)) (cwV 3 hts (lw_V q1166 q1168 qs27 q62 q1169) rfl rfl rfl (by decide +kernel) ⟨Nat.le_of_ble_eq_true rfl, Nat.le_of_ble_eq_true rfl⟩) (preV hK hW.1 rfl hW) rfl rfl hl.1 rfl (lv_room (Nat.le_of_ble_eq_true rfl)) dX2_leadOn_31 ⟨Nat.le_of_ble_eq_true rfl, Nat.le_of_ble_eq_true rfl⟩) hS (fun _ _ h => h) (fun _ h => h) (fun H locs hq hS hz hk => ?_)
    have hW := hq
    refine lv_iload hx hb dX2_leadOn_34 (lv_at hl 0 rfl) ?_
    have e := ldOn_yes (show _ from hc)
    exact W.zret hx hb hr (by rfl) (fun t ht hWm => ⟨⟨_, rfl, by rw [ht]; exact ⟨Gr, Xr, hG, hX, h37, by rw [e]; exact ⟨rfl, hN, hZ3.mono (by omega), hW⟩⟩⟩, hS.F ht⟩) hS.2.2 dX2_leadOn_36
  · skip
    obtain ⟨rfl, hW⟩ := hno hc
    refine lv_istore (lv' := [(6, .int (iI (0))), (5, .int (iI (N 24 (wayN N b)))), (4, .int (iI (wayN N b))), (0, .ref o), (1, .int (iI (b))), (2, .int (iI (sv))), (3, .int (iI (mv)))]) hx hb dX2_leadOn_23 hl (by decide) rfl (fun ls hl => ?_)
    refine lv_aload_n hx hb dX2_leadOn_25 rfl (lv_at hl 3 rfl) ?_
    refine lv_iload hx hb dX2_leadOn_26 (lv_at hl 2 rfl) ?_
    refine lv_iload hx hb dX2_leadOn_28 (lv_at hl 1 rfl) ?_
    refine lv_iconst (v := iI (1)) hx hb dX2_leadOn_30 rfl ?_
    refine rc_N (W.runV (As := [.int (iI ((wayN N b : Nat))), .int (iI ((N 24 (wayN N b) : Nat))), .int (iI (1))]) (rest := []) ⟨hx, hb, hml, hown, hts⟩ (mm_load0 l D cA A o ad F Gr N Xr Z K hKb hF hG hN hX hZ (wayN N b) (N 24 (wayN N b)) 1 (by omega) (by omega) (by decide) (by decide) (by omega)) (cwV 3 hts (lw_V q1166 q1168 qs27 q62 q1169) rfl rfl rfl (by decide +kernel) ⟨Nat.le_of_ble_eq_true rfl, Nat.le_of_ble_eq_true rfl⟩) (preV hK hW.1 rfl hW) rfl rfl hl.1 rfl (lv_room (Nat.le_of_ble_eq_true rfl)) dX2_leadOn_31 ⟨Nat.le_of_ble_eq_true rfl, Nat.le_of_ble_eq_true rfl⟩) hS (fun _ _ h => h) (fun _ h => h) (fun H locs hq hS hz hk => ?_)
    have hW := hq
    refine lv_iload hx hb dX2_leadOn_34 (lv_at hl 0 rfl) ?_
    have e := ldOn_no (show _ from hc)
    rw [Nat.sub_self] at hW
    exact W.zret hx hb hr (by rfl) (fun t ht hWm => ⟨⟨_, rfl, by rw [ht]; exact ⟨Gr, Xr, hG, hX, h37, by rw [e]; exact ⟨rfl, hN, hZ.mono (by omega), hW⟩⟩⟩, hS.F ht⟩) hS.2.2 dX2_leadOn_36
