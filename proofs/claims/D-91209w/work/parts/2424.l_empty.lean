set_option maxRecDepth 100000
set_option maxHeartbeats 4000000 in
set_option maxRecDepth 100000 in
theorem lc_empty {p : Program} {l : Launch} {e : Env} {s : State} {m : MethodId} {below : List Frame} {meth : Method} {c : Code} {b L : Nat} {ys : Nat → Int} {D : va_G} {cA : Nat → ClassId} {sa : Nat → Nat} {o xo oa : Nat} {ad : Nat → Nat} (hls : l.stackTraces = false) (hC : LX p s m c b L ys D cA sa o oa ad) {H : Heap} {locs : List Loc} {ls : Array Slot} {cells slots i : Nat} (hi : i + 7 ≤ L) (hLI : LI D cA sa s.heap.size o xo oa ad H) (hS : va_S (nw s) s.heap H locs) (hl : lv_has ls 7 [(4, .int (iI ((i : Nat)))), (3, .ref oa), (2, .ref o), (1, .ref xo), (0, .ref b)]) (hc : cells + 430 ≤ 601024) (hs : slots + 97000 ≤ 7293034) (kk : ∀ (H1 : Heap) (locs1 : List Loc) (ls1 : Array Slot), LI D cA sa s.heap.size o xo oa ad H1 → va_S (nw s) s.heap H1 locs1 → lv_has ls1 7 [(4, .int (iI ((i : Nat)))), (3, .ref oa), (2, .ref o), (1, .ref xo), (0, .ref b)] → W p l e room_1 s m #[Value.ref b] below meth c H1 locs1 (cells + 430) (slots + 97000) (lw_Z below #[Value.ref b] s) (F0 m 1014 ls1 [])) : W p l e room_1 s m #[Value.ref b] below meth c H locs cells slots (lw_Z below #[Value.ref b] s) (F0 m 462 ls []) := by
  obtain ⟨hx, hb, hml, hown, hts, hK, hSX, hTX, hNc, hX, hbl, hy, hL, hoM, hon, hMn⟩ := hC
  obtain ⟨F, G, M, X, C, Z, E, adC, g, hM, hW, hO, rfl, hR, hNM, hF, hG, hXB⟩ := hLI
  have hNC := hR.1.1.2.1
  have hwf := hR.1.1.1
  have hZ := hR.1.ZB
  have hbA : ¬ nw s b := fun h => by unfold nw at h; omega
  have hF1 : F 1 ≤ 1439 := hF 1
  have hF2 : F 2 ≤ 10 := hF 2
  have hF3 : F 3 ≤ 16 := hF 3
  have hF4 : F 4 ≤ 60 := hF 4
  have hF5 : F 5 ≤ 40 := hF 5
  refine lv_aload_n hx hb dL_law_462 rfl (lv_at hl 3 rfl) ?_
  refine lv_aload_n hx hb dL_law_463 rfl (lv_at hl 4 rfl) ?_
  refine lv_iload hx hb dL_law_464 (lv_at hl 0 rfl) ?_
  refine lv_iconst (v := iI (1)) hx hb dL_law_466 rfl ?_
  refine ri_iadd hx hb dL_law_467 ?_
  refine h_sld hx hb hX hbl hbA hS (i + 1) (by omega) (by omega) hL dL_law_468 ?_
  refine lv_aload_n hx hb dL_law_469 rfl (lv_at hl 4 rfl) ?_
  refine lv_iload hx hb dL_law_470 (lv_at hl 0 rfl) ?_
  refine lv_iconst (v := iI (2)) hx hb dL_law_472 rfl ?_
  refine ri_iadd hx hb dL_law_473 ?_
  refine h_sld hx hb hX hbl hbA hS (i + 2) (by omega) (by omega) hL dL_law_474 ?_
  refine lv_aload_n hx hb dL_law_475 rfl (lv_at hl 1 rfl) ?_
  by_cases hgd : 0 ≤ ys (i + 1) ∧ ys (i + 1) < F 4
  · skip
    obtain ⟨v, h_v⟩ := Int.eq_ofNat_of_zero_le (show 0 ≤ ys (i + 1) by omega)
    by_cases hgd2 : C 21 v = 0 ∧ C 25 (2 * v) = 1 ∧ arW C (2 * v) ≤ F 1 ∧ F 1 ≤ ys (i + 2) ∧ ys (i + 2) ≤ 1439
    · skip
      obtain ⟨w, h_w⟩ := Int.eq_ofNat_of_zero_le (show 0 ≤ ys (i + 2) by omega)
      rw [h_v, h_w]
      have hgd3 := hgd2
      rw [h_w] at hgd3
      have hqw : inR ((w : Nat) : Int) := by rw [← h_w]; exact hy _
      have hnt : ¬ TL F C (2 * v + 1) := fun q => q.2.elim (fun z => by omega) (fun z => z (by rw [show (2 * v + 1) / 2 = v by omega]; exact hgd2.1))
      obtain ⟨h24, h25, h26⟩ := hR.1.1.2.2.1 _ hnt
      have hNb : NB (up2 (up2 C 21 v 1) 20 v w) := (hNC.up (by show 1 ≤ 1; omega)).up (by show w ≤ 1439; omega)
      have hNm : NB (up2 (up2 M 21 v 1) 20 v w) := (hNM.up (by show 1 ≤ 1; omega)).up (by show w ≤ 1439; omega)
      refine rc_I (W.runSW (n := 4) (As := [.ref (adC 0 0), .int (iI ((v : Nat))), .int (iI ((w : Nat))), .ref oa]) (rest := []) ⟨hx, hb, hml, hown, hts⟩ (hh_empty l D cA (ACs s.heap.size o oa ad) sa adC F C Z E 360 (by decide) hF hNC hZ hwf oa g acs_oa v w (by omega) hgd2.1 hgd2.2.1 hgd2.2.2.1 (by omega) (by omega) h24 h25 h26) (lw_SW q870 q871 q41 q872) rfl rfl (by decide +kernel) ⟨Nat.le_of_ble_eq_true rfl, Nat.le_of_ble_eq_true rfl⟩ (lpH hK hSX hTX hS hW hO) rfl rfl hl.1 rfl (lv_room (Nat.le_of_ble_eq_true rfl)) dL_law_476 ⟨by show cells + 3 ≤ 601024; omega, by show slots + 14 ≤ 7293034; omega⟩) hS (fun q _ h => ao_nw hon h) (fun q h => ao_nw hon h) (fun z H1 locs1 hp hS hz hq => ?_)
      have hM := keepM hM hoM hq
      obtain ⟨rfl, ⟨ad2, hadq, hW⟩, hO⟩ := hp
      refine lv_istore (lv' := [(5, .int (iI (0))), (4, .int (iI ((i : Nat)))), (3, .ref oa), (2, .ref o), (1, .ref (adC 0 0)), (0, .ref b)]) hx hb dL_law_479 hl (by decide) rfl (fun ls hl => ?_)
      refine lv_aload_n hx hb dL_law_481 rfl (lv_at hl 3 rfl) ?_
      refine lv_aload_n hx hb dL_law_482 rfl (lv_at hl 5 rfl) ?_
      refine lv_iload hx hb dL_law_483 (lv_at hl 1 rfl) ?_
      refine lv_iconst (v := iI (1)) hx hb dL_law_485 rfl ?_
      refine ri_iadd hx hb dL_law_486 ?_
      refine h_sld hx hb hX hbl hbA hS (i + 1) (by omega) (by omega) hL dL_law_487 ?_
      refine lv_aload_n hx hb dL_law_488 rfl (lv_at hl 5 rfl) ?_
      refine lv_iload hx hb dL_law_489 (lv_at hl 1 rfl) ?_
      refine lv_iconst (v := iI (2)) hx hb dL_law_491 rfl ?_
      refine ri_iadd hx hb dL_law_492 ?_
      refine h_sld hx hb hX hbl hbA hS (i + 2) (by omega) (by omega) hL dL_law_493 ?_
      rw [h_v, h_w]
      refine rc_I (W.runV (As := [.int (iI ((v : Nat))), .int (iI ((w : Nat)))]) (rest := []) ⟨hx, hb, hml, hown, hts⟩ (mm_empty l D cA (AMs o ad) o ad F G M X Z 360 (by decide) hF hG hNM hXB hZ v (w : Nat) hqw (by omega)) (cwV 2 hts (lw_V q1202 q1203 q1204 q62 q1205) rfl rfl rfl (by decide +kernel) ⟨Nat.le_of_ble_eq_true rfl, Nat.le_of_ble_eq_true rfl⟩) (lpM hK hM) rfl rfl hl.1 rfl (lv_room (Nat.le_of_ble_eq_true rfl)) dL_law_494 ⟨by show cells + 3 + 0 ≤ 601024; omega, by show slots + 14 + 0 ≤ 7293034; omega⟩) hS (fun q _ h => hMn q h) (fun q h => hMn q h) (fun z H1 locs1 hp hS hz hq => ?_)
      have hW := keepC hW hF hNb hz hq
      have hO := hO.kept (hq _ hO.lt hoM)
      obtain ⟨rfl, hM⟩ := hp.1 ((rd_empty hR (by omega) _).mpr hgd3)
      simp only [Int.toNat_natCast] at hM
      refine lv_istore (lv' := [(6, .int (iI (1))), (5, .int (iI (0))), (4, .int (iI ((i : Nat)))), (3, .ref oa), (2, .ref o), (1, .ref (adC 0 0)), (0, .ref b)]) hx hb dL_law_497 hl (by decide) rfl (fun ls hl => ?_)
      refine lv_aload_n hx hb dL_law_499 rfl (lv_at hl 4 rfl) ?_
      refine rc_V (W.runV (As := []) (rest := []) ⟨hx, hb, hml, hown, hts⟩ (mm_thrown l D cA (AMs o ad) o ad _ _ _ _ _ 360 (by decide) (hF.up (Nat.zero_le _)) hG (hNm) hXB (hZ)) (cwV 0 hts (lw_V q1090 q1091 q1092 q62 q1093) rfl rfl rfl (by decide +kernel) ⟨Nat.le_of_ble_eq_true rfl, Nat.le_of_ble_eq_true rfl⟩) (lpM hK hM) rfl rfl hl.1 rfl (lv_room (Nat.le_of_ble_eq_true rfl)) dL_law_500 ⟨by show cells + 3 + 0 + 0 ≤ 601024; omega, by show slots + 14 + 0 + 0 ≤ 7293034; omega⟩) ?_
      refine W.eq (g2 := F0 m 503 ls [.int (iI (0))]) rfl ?_
      refine lv_iload hx hb dL_law_503 (lv_at hl 1 rfl) ?_
      refine i_same (tgt := 510) hx hb dL_law_505 (by decide) ?_
      refine lv_iload hx hb dL_law_510 (lv_at hl 1 rfl) ?_
      refine ri_if_ne (tgt := 534) hx hb (by unfold inR; omega) dL_law_512 (by decide) (fun h1 => ?_) (fun h1 => ?_)
      · skip
        exfalso; omega
      · skip
        refine lv_aload_n hx hb dL_law_515 rfl (lv_at hl 3 rfl) ?_
        refine lv_iconst (v := iI (0)) hx hb dL_law_516 rfl ?_
        refine h_lald hx hb hK hO 0 rfl (by omega) (by decide) dL_law_517 ?_
        refine W.eq (g2 := F0 m 518 ls [.long (Int64.ofNat 1)]) rfl ?_
        refine lv_iload hx hb dL_law_518 (lv_at hl 0 rfl) ?_
        refine ri_if_eq (tgt := 527) hx hb (by unfold inR; omega) dL_law_520 (by decide) (fun h2 => ?_) (fun h2 => ?_)
        · skip
          exfalso; omega
        · skip
          refine lv_lconst hx hb dL_law_523 rfl ?_
          refine lv_goto (tgt := 528) hx hb dL_law_524 (by decide) ?_
          refine l_same hx hb dL_law_528 ?_
          refine ri_if_eq (tgt := 534) hx hb (by unfold inR; omega) dL_law_529 (by decide) (fun h3 => ?_) (fun h3 => ?_)
          · skip
            refine lv_goto (tgt := 1014) hx hb dL_law_534 (by decide) ?_
            exact W.widen (k := cells + 430) (n := slots + 97000) (by omega) (by omega) (kk _ _ _ ⟨_, _, _, _, _, _, _, _, _, hM, hW.cgF rfl rfl rfl rfl rfl, hO, hadq, (op_empty hR (b := v) (by omega) hgd2.1 (by omega)).F rfl rfl rfl, hNm, hF.up (Nat.zero_le _), hG, hXB⟩ hS (lv_sub hl [2, 3, 4, 5, 6] rfl))
          · skip
            exfalso; omega
    · skip
      rw [h_v]
      refine rc_I (W.runSW (n := 4) (As := [.ref (adC 0 0), .int (iI ((v : Nat))), .int (iI (ys (i + 2))), .ref oa]) (rest := []) ⟨hx, hb, hml, hown, hts⟩ (hh_empty_n l D cA (ACs s.heap.size o oa ad) sa adC F C Z E 360 (by decide) hF hNC hZ hwf oa g acs_oa v (ys (i + 2)) (hy _) (by omega) hgd2) (lw_SW q870 q871 q41 q872) rfl rfl (by decide +kernel) ⟨Nat.le_of_ble_eq_true rfl, Nat.le_of_ble_eq_true rfl⟩ (lpH hK hSX hTX hS hW hO) rfl rfl hl.1 rfl (lv_room (Nat.le_of_ble_eq_true rfl)) dL_law_476 ⟨by show cells + 0 ≤ 601024; omega, by show slots + 0 ≤ 7293034; omega⟩) hS (fun q _ h => ao_nw hon h) (fun q h => ao_nw hon h) (fun z H1 locs1 hp hS hz hq => ?_)
      have hM := keepM hM hoM hq
      obtain ⟨rfl, hW, hO⟩ := hp
      refine lv_istore (lv' := [(5, .int (iI (0))), (4, .int (iI ((i : Nat)))), (3, .ref oa), (2, .ref o), (1, .ref (adC 0 0)), (0, .ref b)]) hx hb dL_law_479 hl (by decide) rfl (fun ls hl => ?_)
      refine lv_aload_n hx hb dL_law_481 rfl (lv_at hl 3 rfl) ?_
      refine lv_aload_n hx hb dL_law_482 rfl (lv_at hl 5 rfl) ?_
      refine lv_iload hx hb dL_law_483 (lv_at hl 1 rfl) ?_
      refine lv_iconst (v := iI (1)) hx hb dL_law_485 rfl ?_
      refine ri_iadd hx hb dL_law_486 ?_
      refine h_sld hx hb hX hbl hbA hS (i + 1) (by omega) (by omega) hL dL_law_487 ?_
      refine lv_aload_n hx hb dL_law_488 rfl (lv_at hl 5 rfl) ?_
      refine lv_iload hx hb dL_law_489 (lv_at hl 1 rfl) ?_
      refine lv_iconst (v := iI (2)) hx hb dL_law_491 rfl ?_
      refine ri_iadd hx hb dL_law_492 ?_
      refine h_sld hx hb hX hbl hbA hS (i + 2) (by omega) (by omega) hL dL_law_493 ?_
      rw [h_v]
      refine rc_I (W.runV (As := [.int (iI ((v : Nat))), .int (iI (ys (i + 2)))]) (rest := []) ⟨hx, hb, hml, hown, hts⟩ (mm_empty l D cA (AMs o ad) o ad F G M X Z 360 (by decide) hF hG hNM hXB hZ v (ys (i + 2)) (hy _) (by omega)) (cwV 2 hts (lw_V q1202 q1203 q1204 q62 q1205) rfl rfl rfl (by decide +kernel) ⟨Nat.le_of_ble_eq_true rfl, Nat.le_of_ble_eq_true rfl⟩) (lpM hK hM) rfl rfl hl.1 rfl (lv_room (Nat.le_of_ble_eq_true rfl)) dL_law_494 ⟨by show cells + 0 + 0 ≤ 601024; omega, by show slots + 0 + 0 ≤ 7293034; omega⟩) hS (fun q _ h => hMn q h) (fun q h => hMn q h) (fun z H1 locs1 hp hS hz hq => ?_)
      have hW := keepC hW hF hNC hz hq
      have hO := hO.kept (hq _ hO.lt hoM)
      obtain ⟨rfl, hM⟩ := hp.2 (fun q => hgd2 ((rd_empty hR (by omega) _).mp q))
      refine lv_istore (lv' := [(6, .int (iI (0))), (5, .int (iI (0))), (4, .int (iI ((i : Nat)))), (3, .ref oa), (2, .ref o), (1, .ref (adC 0 0)), (0, .ref b)]) hx hb dL_law_497 hl (by decide) rfl (fun ls hl => ?_)
      refine lv_aload_n hx hb dL_law_499 rfl (lv_at hl 4 rfl) ?_
      refine rc_V (W.runV (As := []) (rest := []) ⟨hx, hb, hml, hown, hts⟩ (mm_thrown l D cA (AMs o ad) o ad _ _ _ _ _ 360 (by decide) (hF.up (Nat.zero_le _)) hG (hNM) hXB (hZ)) (cwV 0 hts (lw_V q1090 q1091 q1092 q62 q1093) rfl rfl rfl (by decide +kernel) ⟨Nat.le_of_ble_eq_true rfl, Nat.le_of_ble_eq_true rfl⟩) (lpM hK hM) rfl rfl hl.1 rfl (lv_room (Nat.le_of_ble_eq_true rfl)) dL_law_500 ⟨by show cells + 0 + 0 + 0 ≤ 601024; omega, by show slots + 0 + 0 + 0 ≤ 7293034; omega⟩) ?_
      refine W.eq (g2 := F0 m 503 ls [.int (iI (0))]) rfl ?_
      refine lv_iload hx hb dL_law_503 (lv_at hl 1 rfl) ?_
      refine i_same (tgt := 510) hx hb dL_law_505 (by decide) ?_
      refine lv_iload hx hb dL_law_510 (lv_at hl 1 rfl) ?_
      refine ri_if_ne (tgt := 534) hx hb (by unfold inR; omega) dL_law_512 (by decide) (fun h4 => ?_) (fun h4 => ?_)
      · skip
        exfalso; omega
      · skip
        refine lv_aload_n hx hb dL_law_515 rfl (lv_at hl 3 rfl) ?_
        refine lv_iconst (v := iI (0)) hx hb dL_law_516 rfl ?_
        refine h_lald hx hb hK hO 0 rfl (by omega) (by decide) dL_law_517 ?_
        refine W.eq (g2 := F0 m 518 ls [.long (Int64.ofNat 0)]) rfl ?_
        refine lv_iload hx hb dL_law_518 (lv_at hl 0 rfl) ?_
        refine ri_if_eq (tgt := 527) hx hb (by unfold inR; omega) dL_law_520 (by decide) (fun h5 => ?_) (fun h5 => ?_)
        · skip
          refine lv_lconst hx hb dL_law_527 rfl ?_
          refine l_same hx hb dL_law_528 ?_
          refine ri_if_eq (tgt := 534) hx hb (by unfold inR; omega) dL_law_529 (by decide) (fun h6 => ?_) (fun h6 => ?_)
          · skip
            refine lv_goto (tgt := 1014) hx hb dL_law_534 (by decide) ?_
            exact W.widen (k := cells + 430) (n := slots + 97000) (by omega) (by omega) (kk _ _ _ ⟨_, _, _, _, _, _, _, _, _, hM, hW.cgF rfl rfl rfl rfl rfl, hO, rfl, hR.F rfl rfl rfl, hNM, hF.up (Nat.zero_le _), hG, hXB⟩ hS (lv_sub hl [2, 3, 4, 5, 6] rfl))
          · skip
            exfalso; omega
        · skip
          exfalso; omega
  · skip
    refine rc_I (W.runSW (n := 4) (As := [.ref (adC 0 0), .int (iI (ys (i + 1))), .int (iI (ys (i + 2))), .ref oa]) (rest := []) ⟨hx, hb, hml, hown, hts⟩ (hh_empty_t l hls D cA (ACs s.heap.size o oa ad) sa adC F C Z E 360 (by decide) hF hNC hZ hwf oa g acs_oa (ys (i + 1)) (ys (i + 2)) (hy _) hgd) (lw_SW q870 q871 q41 q872) rfl rfl (by decide +kernel) ⟨Nat.le_of_ble_eq_true rfl, Nat.le_of_ble_eq_true rfl⟩ (lpH hK hSX hTX hS hW hO) rfl rfl hl.1 rfl (lv_room (Nat.le_of_ble_eq_true rfl)) dL_law_476 ⟨by show cells + 1 ≤ 601024; omega, by show slots + 6 ≤ 7293034; omega⟩) hS (fun q _ h => ao_nw hon h) (fun q h => ao_nw hon h) (fun z H1 locs1 hp hS hz hq => ?_)
    have hM := keepM hM hoM hq
    obtain ⟨rfl, hW, hO⟩ := hp
    refine lv_istore (lv' := [(5, .int (iI (1))), (4, .int (iI ((i : Nat)))), (3, .ref oa), (2, .ref o), (1, .ref (adC 0 0)), (0, .ref b)]) hx hb dL_law_479 hl (by decide) rfl (fun ls hl => ?_)
    refine lv_aload_n hx hb dL_law_481 rfl (lv_at hl 3 rfl) ?_
    refine lv_aload_n hx hb dL_law_482 rfl (lv_at hl 5 rfl) ?_
    refine lv_iload hx hb dL_law_483 (lv_at hl 1 rfl) ?_
    refine lv_iconst (v := iI (1)) hx hb dL_law_485 rfl ?_
    refine ri_iadd hx hb dL_law_486 ?_
    refine h_sld hx hb hX hbl hbA hS (i + 1) (by omega) (by omega) hL dL_law_487 ?_
    refine lv_aload_n hx hb dL_law_488 rfl (lv_at hl 5 rfl) ?_
    refine lv_iload hx hb dL_law_489 (lv_at hl 1 rfl) ?_
    refine lv_iconst (v := iI (2)) hx hb dL_law_491 rfl ?_
    refine ri_iadd hx hb dL_law_492 ?_
    refine h_sld hx hb hX hbl hbA hS (i + 2) (by omega) (by omega) hL dL_law_493 ?_
    refine rc_I (W.runV (As := [.int (iI (ys (i + 1))), .int (iI (ys (i + 2)))]) (rest := []) ⟨hx, hb, hml, hown, hts⟩ (mm_empty_x l D cA (AMs o ad) o ad F G M X Z 360 (by decide) hF hG hNM hXB hZ (ys (i + 1)) (ys (i + 2)) (hy _) (hy _) (fun ⟨a, h1, h2⟩ => hgd (by omega))) (cwV 2 hts (lw_V q1202 q1203 q1204 q62 q1205) rfl rfl rfl (by decide +kernel) ⟨Nat.le_of_ble_eq_true rfl, Nat.le_of_ble_eq_true rfl⟩) (lpM hK hM) rfl rfl hl.1 rfl (lv_room (Nat.le_of_ble_eq_true rfl)) dL_law_494 ⟨by show cells + 1 + 0 ≤ 601024; omega, by show slots + 6 + 0 ≤ 7293034; omega⟩) hS (fun q _ h => hMn q h) (fun q h => hMn q h) (fun z H1 locs1 hp hS hz hq => ?_)
    have hW := keepC hW hF hNC hz hq
    have hO := hO.kept (hq _ hO.lt hoM)
    have hM := hp
    refine lv_istore (lv' := [(6, .int (iI (z))), (5, .int (iI (1))), (4, .int (iI ((i : Nat)))), (3, .ref oa), (2, .ref o), (1, .ref (adC 0 0)), (0, .ref b)]) hx hb dL_law_497 hl (by decide) rfl (fun ls hl => ?_)
    refine lv_aload_n hx hb dL_law_499 rfl (lv_at hl 4 rfl) ?_
    refine rc_V (W.runV (As := []) (rest := []) ⟨hx, hb, hml, hown, hts⟩ (mm_thrown l D cA (AMs o ad) o ad _ _ _ _ _ 360 (by decide) (FB.up (hF.up (Nat.zero_le _)) (by show 1 ≤ 2; omega)) hG (hNM) hXB (hZ)) (cwV 0 hts (lw_V q1090 q1091 q1092 q62 q1093) rfl rfl rfl (by decide +kernel) ⟨Nat.le_of_ble_eq_true rfl, Nat.le_of_ble_eq_true rfl⟩) (lpM hK hM) rfl rfl hl.1 rfl (lv_room (Nat.le_of_ble_eq_true rfl)) dL_law_500 ⟨by show cells + 1 + 0 + 0 ≤ 601024; omega, by show slots + 6 + 0 + 0 ≤ 7293034; omega⟩) ?_
    refine W.eq (g2 := F0 m 503 ls [.int (iI (1))]) rfl ?_
    refine lv_iload hx hb dL_law_503 (lv_at hl 1 rfl) ?_
    refine i_same (tgt := 510) hx hb dL_law_505 (by decide) ?_
    refine lv_iload hx hb dL_law_510 (lv_at hl 1 rfl) ?_
    refine ri_if_ne (tgt := 534) hx hb (by unfold inR; omega) dL_law_512 (by decide) (fun h7 => ?_) (fun h7 => ?_)
    · skip
      refine lv_goto (tgt := 1014) hx hb dL_law_534 (by decide) ?_
      exact W.widen (k := cells + 430) (n := slots + 97000) (by omega) (by omega) (kk _ _ _ ⟨_, _, _, _, _, _, _, _, _, hM, hW.cgF rfl rfl rfl rfl rfl, hO, rfl, hR.F rfl rfl rfl, hNM, FB.up (hF.up (Nat.zero_le _)) (by show 1 ≤ 2; omega), hG, hXB⟩ hS (lv_sub hl [2, 3, 4, 5, 6] rfl))
    · skip
      exfalso; omega
