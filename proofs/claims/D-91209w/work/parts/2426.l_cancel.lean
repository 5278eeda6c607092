set_option maxRecDepth 100000
set_option maxHeartbeats 4000000 in
set_option maxRecDepth 100000 in
theorem lc_cancel {p : Program} {l : Launch} {e : Env} {s : State} {m : MethodId} {below : List Frame} {meth : Method} {c : Code} {b L : Nat} {ys : Nat → Int} {D : va_G} {cA : Nat → ClassId} {sa : Nat → Nat} {o xo oa : Nat} {ad : Nat → Nat} (hls : l.stackTraces = false) (hC : LX p s m c b L ys D cA sa o oa ad) {H : Heap} {locs : List Loc} {ls : Array Slot} {cells slots i : Nat} (hi : i + 7 ≤ L) (hLI : LI D cA sa s.heap.size o xo oa ad H) (hS : va_S (nw s) s.heap H locs) (hl : lv_has ls 7 [(4, .int (iI ((i : Nat)))), (3, .ref oa), (2, .ref o), (1, .ref xo), (0, .ref b)]) (hc : cells + 430 ≤ 601024) (hs : slots + 97000 ≤ 7293034) (kk : ∀ (H1 : Heap) (locs1 : List Loc) (ls1 : Array Slot), LI D cA sa s.heap.size o xo oa ad H1 → va_S (nw s) s.heap H1 locs1 → lv_has ls1 7 [(4, .int (iI ((i : Nat)))), (3, .ref oa), (2, .ref o), (1, .ref xo), (0, .ref b)] → W p l e room_1 s m #[Value.ref b] below meth c H1 locs1 (cells + 430) (slots + 97000) (lw_Z below #[Value.ref b] s) (F0 m 1014 ls1 [])) : W p l e room_1 s m #[Value.ref b] below meth c H locs cells slots (lw_Z below #[Value.ref b] s) (F0 m 406 ls []) := by
  obtain ⟨hx, hb, hml, hown, hts, hK, hSX, hTX, hNc, hX, hbl, hy, hL, hoM, hon, hMn⟩ := hC
  obtain ⟨F, G, M, X, C, Z, E, adC, g, hM, hW, hO, rfl, hR, hNM, hF, hG, hXB⟩ := hLI
  have hNC := hR.1.1.2.1
  have hwf := hR.1.1.1
  have hZ := hR.1.ZB
  have hbA : ¬ nw s b := fun h => by unfold nw at h; omega
  have hF1 : F 1 ≤ 1439 := hF 1
  have hF2 : F 2 ≤ 10 := hF 2
  have hF3 : F 3 ≤ 16 := hF 3
  have hF4 : F 4 ≤ 60 := hF 4
  have hF5 : F 5 ≤ 40 := hF 5
  refine lv_aload_n hx hb dL_law_406 rfl (lv_at hl 3 rfl) ?_
  refine lv_aload_n hx hb dL_law_407 rfl (lv_at hl 4 rfl) ?_
  refine lv_iload hx hb dL_law_408 (lv_at hl 0 rfl) ?_
  refine lv_iconst (v := iI (1)) hx hb dL_law_410 rfl ?_
  refine ri_iadd hx hb dL_law_411 ?_
  refine h_sld hx hb hX hbl hbA hS (i + 1) (by omega) (by omega) hL dL_law_412 ?_
  refine lv_aload_n hx hb dL_law_413 rfl (lv_at hl 1 rfl) ?_
  by_cases hgd : 0 ≤ ys (i + 1) ∧ ys (i + 1) < F 3
  · skip
    obtain ⟨v, h_v⟩ := Int.eq_ofNat_of_zero_le (show 0 ≤ ys (i + 1) by omega)
    by_cases hgd2 : C 13 v = 0 ∧ C 8 v ≠ 0 ∧ F 1 < C 10 (10 * v + 0)
    · skip
      rw [h_v]
      have r8 : M 8 = C 8 := hR.2.2.1 8 (by decide) (by decide) (by decide)
      have r10 : M 10 = C 10 := hR.2.2.1 10 (by decide) (by decide) (by decide)
      have r13 : M 13 = C 13 := hR.2.2.1 13 (by decide) (by decide) (by decide)
      refine rc_I (W.runSW (n := 3) (As := [.ref (adC 0 0), .int (iI ((v : Nat))), .ref oa]) (rest := []) ⟨hx, hb, hml, hown, hts⟩ (hh_cancel l D cA (ACs s.heap.size o oa ad) sa adC F C Z E 360 (by decide) hF hNC hZ hwf oa g acs_oa v (by omega) (by decide) hgd2) (lw_SW q843 q844 q41 q845) rfl rfl (by decide +kernel) ⟨Nat.le_of_ble_eq_true rfl, Nat.le_of_ble_eq_true rfl⟩ (lpH hK hSX hTX hS hW hO) rfl rfl hl.1 rfl (lv_room (Nat.le_of_ble_eq_true rfl)) dL_law_414 ⟨by show cells + 422 ≤ 601024; omega, by show slots + 96545 ≤ 7293034; omega⟩) hS (fun q _ h => ao_nw hon h) (fun q h => ao_nw hon h) (fun z H1 locs1 hp hS hz hq => ?_)
      have hM := keepM hM hoM hq
      obtain ⟨rfl, ⟨ad2, E2, hadq, hN2, hW⟩, hO⟩ := hp
      refine lv_istore (lv' := [(5, .int (iI (0))), (4, .int (iI ((i : Nat)))), (3, .ref oa), (2, .ref o), (1, .ref (adC 0 0)), (0, .ref b)]) hx hb dL_law_417 hl (by decide) rfl (fun ls hl => ?_)
      refine lv_aload_n hx hb dL_law_419 rfl (lv_at hl 3 rfl) ?_
      refine lv_aload_n hx hb dL_law_420 rfl (lv_at hl 5 rfl) ?_
      refine lv_iload hx hb dL_law_421 (lv_at hl 1 rfl) ?_
      refine lv_iconst (v := iI (1)) hx hb dL_law_423 rfl ?_
      refine ri_iadd hx hb dL_law_424 ?_
      refine h_sld hx hb hX hbl hbA hS (i + 1) (by omega) (by omega) hL dL_law_425 ?_
      rw [h_v]
      refine rc_I (W.runV (As := [.int (iI ((v : Nat)))]) (rest := []) ⟨hx, hb, hml, hown, hts⟩ (mm_cancel l D cA (AMs o ad) o ad F G M X Z 360 (by decide) hF hG hNM hXB hZ v (by omega) (by decide)) (cwV 1 hts (lw_V q1186 q1187 q1188 q62 q1189) rfl rfl rfl (by decide +kernel) ⟨Nat.le_of_ble_eq_true rfl, Nat.le_of_ble_eq_true rfl⟩) (lpM hK hM) rfl rfl hl.1 rfl (lv_room (Nat.le_of_ble_eq_true rfl)) dL_law_426 ⟨by show cells + 422 + 0 ≤ 601024; omega, by show slots + 96545 + 0 ≤ 7293034; omega⟩) hS (fun q _ h => hMn q h) (fun q h => hMn q h) (fun z H1 locs1 hp hS hz hq => ?_)
      have hW := keepC hW hF hN2 hz hq
      have hO := hO.kept (hq _ hO.lt hoM)
      obtain ⟨G2, X2, hG2, hX2, rfl, hNM2, hZm, hM⟩ := hp.1 (by rw [r13, r8, r10]; exact hgd2)
      obtain ⟨e1, e2, hR2⟩ := canc_eq (t := v) (X 37) hR hF (by omega)
      rw [e2] at hM
      refine ri_top (b := ((x1It v (up2 C 13 v 1) Z (F 4)).2.2.length : Nat)) (by rw [e1]) ?_
      refine lv_istore (lv' := [(6, .int (iI (((x1It v (up2 C 13 v 1) Z (F 4)).2.2.length : Nat)))), (5, .int (iI (0))), (4, .int (iI ((i : Nat)))), (3, .ref oa), (2, .ref o), (1, .ref (adC 0 0)), (0, .ref b)]) hx hb dL_law_429 hl (by decide) rfl (fun ls hl => ?_)
      refine lv_aload_n hx hb dL_law_431 rfl (lv_at hl 4 rfl) ?_
      refine rc_V (W.runV (As := []) (rest := []) ⟨hx, hb, hml, hown, hts⟩ (mm_thrown l D cA (AMs o ad) o ad _ _ _ _ _ 360 (by decide) (hF.up (Nat.zero_le _)) hG2 (hNM2) hX2 (hR2.1.ZB)) (cwV 0 hts (lw_V q1090 q1091 q1092 q62 q1093) rfl rfl rfl (by decide +kernel) ⟨Nat.le_of_ble_eq_true rfl, Nat.le_of_ble_eq_true rfl⟩) (lpM hK hM) rfl rfl hl.1 rfl (lv_room (Nat.le_of_ble_eq_true rfl)) dL_law_432 ⟨by show cells + 422 + 0 + 0 ≤ 601024; omega, by show slots + 96545 + 0 + 0 ≤ 7293034; omega⟩) ?_
      refine W.eq (g2 := F0 m 435 ls [.int (iI (0))]) rfl ?_
      refine lv_iload hx hb dL_law_435 (lv_at hl 1 rfl) ?_
      refine i_same (tgt := 442) hx hb dL_law_437 (by decide) ?_
      refine lv_iload hx hb dL_law_442 (lv_at hl 1 rfl) ?_
      refine ri_if_ne (tgt := 459) hx hb (by unfold inR; omega) dL_law_444 (by decide) (fun h1 => ?_) (fun h1 => ?_)
      · skip
        exfalso; omega
      · skip
        refine lv_aload_n hx hb dL_law_447 rfl (lv_at hl 3 rfl) ?_
        refine lv_iconst (v := iI (0)) hx hb dL_law_448 rfl ?_
        refine h_lald hx hb hK hO 0 rfl (by omega) (by decide) dL_law_449 ?_
        refine W.eq (g2 := F0 m 450 ls [.long ((iI (((x1It v (up2 C 13 v 1) Z (F 4)).2.2.length : Nat))).toInt64)]) rfl ?_
        refine lv_iload hx hb dL_law_450 (lv_at hl 0 rfl) ?_
        refine lv_i2l hx hb dL_law_452 rfl ?_
        refine l_same hx hb dL_law_453 ?_
        refine ri_if_eq (tgt := 459) hx hb (by unfold inR; omega) dL_law_454 (by decide) (fun h2 => ?_) (fun h2 => ?_)
        · skip
          refine lv_goto (tgt := 1014) hx hb dL_law_459 (by decide) ?_
          exact W.widen (k := cells + 430) (n := slots + 97000) (by omega) (by omega) (kk _ _ _ ⟨_, _, _, _, _, _, _, _, _, hM, hW.cgF rfl rfl rfl rfl rfl, hO, hadq, (hR2).F rfl rfl rfl, hNM2, hF.up (Nat.zero_le _), hG2, hX2⟩ hS (lv_sub hl [2, 3, 4, 5, 6] rfl))
        · skip
          exfalso; omega
    · skip
      rw [h_v]
      have r8 : M 8 = C 8 := hR.2.2.1 8 (by decide) (by decide) (by decide)
      have r10 : M 10 = C 10 := hR.2.2.1 10 (by decide) (by decide) (by decide)
      have r13 : M 13 = C 13 := hR.2.2.1 13 (by decide) (by decide) (by decide)
      refine rc_I (W.runSW (n := 3) (As := [.ref (adC 0 0), .int (iI ((v : Nat))), .ref oa]) (rest := []) ⟨hx, hb, hml, hown, hts⟩ (hh_cancel_n l D cA (ACs s.heap.size o oa ad) sa adC F C Z E 360 (by decide) hF hNC hZ hwf oa g acs_oa v (by omega) (by decide) hgd2) (lw_SW q843 q844 q41 q845) rfl rfl (by decide +kernel) ⟨Nat.le_of_ble_eq_true rfl, Nat.le_of_ble_eq_true rfl⟩ (lpH hK hSX hTX hS hW hO) rfl rfl hl.1 rfl (lv_room (Nat.le_of_ble_eq_true rfl)) dL_law_414 ⟨by show cells + 422 ≤ 601024; omega, by show slots + 96545 ≤ 7293034; omega⟩) hS (fun q _ h => ao_nw hon h) (fun q h => ao_nw hon h) (fun z H1 locs1 hp hS hz hq => ?_)
      have hM := keepM hM hoM hq
      obtain ⟨rfl, hW, hO⟩ := hp
      refine lv_istore (lv' := [(5, .int (iI (0))), (4, .int (iI ((i : Nat)))), (3, .ref oa), (2, .ref o), (1, .ref (adC 0 0)), (0, .ref b)]) hx hb dL_law_417 hl (by decide) rfl (fun ls hl => ?_)
      refine lv_aload_n hx hb dL_law_419 rfl (lv_at hl 3 rfl) ?_
      refine lv_aload_n hx hb dL_law_420 rfl (lv_at hl 5 rfl) ?_
      refine lv_iload hx hb dL_law_421 (lv_at hl 1 rfl) ?_
      refine lv_iconst (v := iI (1)) hx hb dL_law_423 rfl ?_
      refine ri_iadd hx hb dL_law_424 ?_
      refine h_sld hx hb hX hbl hbA hS (i + 1) (by omega) (by omega) hL dL_law_425 ?_
      rw [h_v]
      refine rc_I (W.runV (As := [.int (iI ((v : Nat)))]) (rest := []) ⟨hx, hb, hml, hown, hts⟩ (mm_cancel l D cA (AMs o ad) o ad F G M X Z 360 (by decide) hF hG hNM hXB hZ v (by omega) (by decide)) (cwV 1 hts (lw_V q1186 q1187 q1188 q62 q1189) rfl rfl rfl (by decide +kernel) ⟨Nat.le_of_ble_eq_true rfl, Nat.le_of_ble_eq_true rfl⟩) (lpM hK hM) rfl rfl hl.1 rfl (lv_room (Nat.le_of_ble_eq_true rfl)) dL_law_426 ⟨by show cells + 422 + 0 ≤ 601024; omega, by show slots + 96545 + 0 ≤ 7293034; omega⟩) hS (fun q _ h => hMn q h) (fun q h => hMn q h) (fun z H1 locs1 hp hS hz hq => ?_)
      have hW := keepC hW hF hNC hz hq
      have hO := hO.kept (hq _ hO.lt hoM)
      obtain ⟨rfl, hM⟩ := hp.2 (by rw [r13, r8, r10]; exact hgd2)
      refine lv_istore (lv' := [(6, .int (iI (-1))), (5, .int (iI (0))), (4, .int (iI ((i : Nat)))), (3, .ref oa), (2, .ref o), (1, .ref (adC 0 0)), (0, .ref b)]) hx hb dL_law_429 hl (by decide) rfl (fun ls hl => ?_)
      refine lv_aload_n hx hb dL_law_431 rfl (lv_at hl 4 rfl) ?_
      refine rc_V (W.runV (As := []) (rest := []) ⟨hx, hb, hml, hown, hts⟩ (mm_thrown l D cA (AMs o ad) o ad _ _ _ _ _ 360 (by decide) (hF.up (Nat.zero_le _)) hG (hNM) hXB (hZ)) (cwV 0 hts (lw_V q1090 q1091 q1092 q62 q1093) rfl rfl rfl (by decide +kernel) ⟨Nat.le_of_ble_eq_true rfl, Nat.le_of_ble_eq_true rfl⟩) (lpM hK hM) rfl rfl hl.1 rfl (lv_room (Nat.le_of_ble_eq_true rfl)) dL_law_432 ⟨by show cells + 422 + 0 + 0 ≤ 601024; omega, by show slots + 96545 + 0 + 0 ≤ 7293034; omega⟩) ?_
      refine W.eq (g2 := F0 m 435 ls [.int (iI (0))]) rfl ?_
      refine lv_iload hx hb dL_law_435 (lv_at hl 1 rfl) ?_
      refine i_same (tgt := 442) hx hb dL_law_437 (by decide) ?_
      refine lv_iload hx hb dL_law_442 (lv_at hl 1 rfl) ?_
      refine ri_if_ne (tgt := 459) hx hb (by unfold inR; omega) dL_law_444 (by decide) (fun h3 => ?_) (fun h3 => ?_)
      · skip
        exfalso; omega
      · skip
        refine lv_aload_n hx hb dL_law_447 rfl (lv_at hl 3 rfl) ?_
        refine lv_iconst (v := iI (0)) hx hb dL_law_448 rfl ?_
        refine h_lald hx hb hK hO 0 rfl (by omega) (by decide) dL_law_449 ?_
        refine W.eq (g2 := F0 m 450 ls [.long ((iI (-1)).toInt64)]) rfl ?_
        refine lv_iload hx hb dL_law_450 (lv_at hl 0 rfl) ?_
        refine lv_i2l hx hb dL_law_452 rfl ?_
        refine l_same hx hb dL_law_453 ?_
        refine ri_if_eq (tgt := 459) hx hb (by unfold inR; omega) dL_law_454 (by decide) (fun h4 => ?_) (fun h4 => ?_)
        · skip
          refine lv_goto (tgt := 1014) hx hb dL_law_459 (by decide) ?_
          exact W.widen (k := cells + 430) (n := slots + 97000) (by omega) (by omega) (kk _ _ _ ⟨_, _, _, _, _, _, _, _, _, hM, hW.cgF rfl rfl rfl rfl rfl, hO, rfl, hR.F rfl rfl rfl, hNM, hF.up (Nat.zero_le _), hG, hXB⟩ hS (lv_sub hl [2, 3, 4, 5, 6] rfl))
        · skip
          exfalso; omega
  · skip
    refine rc_I (W.runSW (n := 3) (As := [.ref (adC 0 0), .int (iI (ys (i + 1))), .ref oa]) (rest := []) ⟨hx, hb, hml, hown, hts⟩ (hh_cancel_t l hls D cA (ACs s.heap.size o oa ad) sa adC F C Z E 360 (by decide) hF hNC hZ hwf oa g acs_oa (ys (i + 1)) (hy _) hgd) (lw_SW q843 q844 q41 q845) rfl rfl (by decide +kernel) ⟨Nat.le_of_ble_eq_true rfl, Nat.le_of_ble_eq_true rfl⟩ (lpH hK hSX hTX hS hW hO) rfl rfl hl.1 rfl (lv_room (Nat.le_of_ble_eq_true rfl)) dL_law_414 ⟨by show cells + 1 ≤ 601024; omega, by show slots + 6 ≤ 7293034; omega⟩) hS (fun q _ h => ao_nw hon h) (fun q h => ao_nw hon h) (fun z H1 locs1 hp hS hz hq => ?_)
    have hM := keepM hM hoM hq
    obtain ⟨rfl, hW, hO⟩ := hp
    refine lv_istore (lv' := [(5, .int (iI (1))), (4, .int (iI ((i : Nat)))), (3, .ref oa), (2, .ref o), (1, .ref (adC 0 0)), (0, .ref b)]) hx hb dL_law_417 hl (by decide) rfl (fun ls hl => ?_)
    refine lv_aload_n hx hb dL_law_419 rfl (lv_at hl 3 rfl) ?_
    refine lv_aload_n hx hb dL_law_420 rfl (lv_at hl 5 rfl) ?_
    refine lv_iload hx hb dL_law_421 (lv_at hl 1 rfl) ?_
    refine lv_iconst (v := iI (1)) hx hb dL_law_423 rfl ?_
    refine ri_iadd hx hb dL_law_424 ?_
    refine h_sld hx hb hX hbl hbA hS (i + 1) (by omega) (by omega) hL dL_law_425 ?_
    refine rc_I (W.runV (As := [.int (iI (ys (i + 1)))]) (rest := []) ⟨hx, hb, hml, hown, hts⟩ (mm_cancel_x l D cA (AMs o ad) o ad F G M X Z 360 (by decide) hF hG hNM hXB hZ (ys (i + 1)) (hy _) (fun ⟨a, h1, h2⟩ => hgd (by omega))) (cwV 1 hts (lw_V q1186 q1187 q1188 q62 q1189) rfl rfl rfl (by decide +kernel) ⟨Nat.le_of_ble_eq_true rfl, Nat.le_of_ble_eq_true rfl⟩) (lpM hK hM) rfl rfl hl.1 rfl (lv_room (Nat.le_of_ble_eq_true rfl)) dL_law_426 ⟨by show cells + 1 + 0 ≤ 601024; omega, by show slots + 6 + 0 ≤ 7293034; omega⟩) hS (fun q _ h => hMn q h) (fun q h => hMn q h) (fun z H1 locs1 hp hS hz hq => ?_)
    have hW := keepC hW hF hNC hz hq
    have hO := hO.kept (hq _ hO.lt hoM)
    have hM := hp
    refine lv_istore (lv' := [(6, .int (iI (z))), (5, .int (iI (1))), (4, .int (iI ((i : Nat)))), (3, .ref oa), (2, .ref o), (1, .ref (adC 0 0)), (0, .ref b)]) hx hb dL_law_429 hl (by decide) rfl (fun ls hl => ?_)
    refine lv_aload_n hx hb dL_law_431 rfl (lv_at hl 4 rfl) ?_
    refine rc_V (W.runV (As := []) (rest := []) ⟨hx, hb, hml, hown, hts⟩ (mm_thrown l D cA (AMs o ad) o ad _ _ _ _ _ 360 (by decide) (FB.up (hF.up (Nat.zero_le _)) (by show 1 ≤ 2; omega)) hG (hNM) hXB (hZ)) (cwV 0 hts (lw_V q1090 q1091 q1092 q62 q1093) rfl rfl rfl (by decide +kernel) ⟨Nat.le_of_ble_eq_true rfl, Nat.le_of_ble_eq_true rfl⟩) (lpM hK hM) rfl rfl hl.1 rfl (lv_room (Nat.le_of_ble_eq_true rfl)) dL_law_432 ⟨by show cells + 1 + 0 + 0 ≤ 601024; omega, by show slots + 6 + 0 + 0 ≤ 7293034; omega⟩) ?_
    refine W.eq (g2 := F0 m 435 ls [.int (iI (1))]) rfl ?_
    refine lv_iload hx hb dL_law_435 (lv_at hl 1 rfl) ?_
    refine i_same (tgt := 442) hx hb dL_law_437 (by decide) ?_
    refine lv_iload hx hb dL_law_442 (lv_at hl 1 rfl) ?_
    refine ri_if_ne (tgt := 459) hx hb (by unfold inR; omega) dL_law_444 (by decide) (fun h5 => ?_) (fun h5 => ?_)
    · skip
      refine lv_goto (tgt := 1014) hx hb dL_law_459 (by decide) ?_
      exact W.widen (k := cells + 430) (n := slots + 97000) (by omega) (by omega) (kk _ _ _ ⟨_, _, _, _, _, _, _, _, _, hM, hW.cgF rfl rfl rfl rfl rfl, hO, rfl, hR.F rfl rfl rfl, hNM, FB.up (hF.up (Nat.zero_le _)) (by show 1 ≤ 2; omega), hG, hXB⟩ hS (lv_sub hl [2, 3, 4, 5, 6] rfl))
    · skip
      exfalso; omega
