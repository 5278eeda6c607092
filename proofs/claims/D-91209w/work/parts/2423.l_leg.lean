set_option maxRecDepth 100000
set_option maxHeartbeats 4000000 in
set_option maxRecDepth 100000 in
theorem lc_leg {p : Program} {l : Launch} {e : Env} {s : State} {m : MethodId} {below : List Frame} {meth : Method} {c : Code} {b L : Nat} {ys : Nat → Int} {D : va_G} {cA : Nat → ClassId} {sa : Nat → Nat} {o xo oa : Nat} {ad : Nat → Nat} (hls : l.stackTraces = false) (hC : LX p s m c b L ys D cA sa o oa ad) {H : Heap} {locs : List Loc} {ls : Array Slot} {cells slots i : Nat} (hi : i + 7 ≤ L) (hLI : LI D cA sa s.heap.size o xo oa ad H) (hS : va_S (nw s) s.heap H locs) (hl : lv_has ls 7 [(4, .int (iI ((i : Nat)))), (3, .ref oa), (2, .ref o), (1, .ref xo), (0, .ref b)]) (hc : cells + 430 ≤ 601024) (hs : slots + 97000 ≤ 7293034) (kk : ∀ (H1 : Heap) (locs1 : List Loc) (ls1 : Array Slot), LI D cA sa s.heap.size o xo oa ad H1 → va_S (nw s) s.heap H1 locs1 → lv_has ls1 7 [(4, .int (iI ((i : Nat)))), (3, .ref oa), (2, .ref o), (1, .ref xo), (0, .ref b)] → W p l e room_1 s m #[Value.ref b] below meth c H1 locs1 (cells + 430) (slots + 97000) (lw_Z below #[Value.ref b] s) (F0 m 1014 ls1 [])) : W p l e room_1 s m #[Value.ref b] below meth c H locs cells slots (lw_Z below #[Value.ref b] s) (F0 m 605 ls []) := by
  obtain ⟨hx, hb, hml, hown, hts, hK, hSX, hTX, hNc, hX, hbl, hy, hL, hoM, hon, hMn⟩ := hC
  obtain ⟨F, G, M, X, C, Z, E, adC, g, hM, hW, hO, rfl, hR, hNM, hF, hG, hXB⟩ := hLI
  have hNC := hR.1.1.2.1
  have hwf := hR.1.1.1
  have hZ := hR.1.ZB
  have hbA : ¬ nw s b := fun h => by unfold nw at h; omega
  have hF1 : F 1 ≤ 1439 := hF 1
  have hF2 : F 2 ≤ 10 := hF 2
  have hF3 : F 3 ≤ 16 := hF 3
  have hF4 : F 4 ≤ 60 := hF 4
  have hF5 : F 5 ≤ 40 := hF 5
  refine lv_aload_n hx hb dL_law_605 rfl (lv_at hl 3 rfl) ?_
  refine lv_aload_n hx hb dL_law_606 rfl (lv_at hl 4 rfl) ?_
  refine lv_iload hx hb dL_law_607 (lv_at hl 0 rfl) ?_
  refine lv_iconst (v := iI (1)) hx hb dL_law_609 rfl ?_
  refine ri_iadd hx hb dL_law_610 ?_
  refine h_sld hx hb hX hbl hbA hS (i + 1) (by omega) (by omega) hL dL_law_611 ?_
  refine lv_aload_n hx hb dL_law_612 rfl (lv_at hl 4 rfl) ?_
  refine lv_iload hx hb dL_law_613 (lv_at hl 0 rfl) ?_
  refine lv_iconst (v := iI (2)) hx hb dL_law_615 rfl ?_
  refine ri_iadd hx hb dL_law_616 ?_
  refine h_sld hx hb hX hbl hbA hS (i + 2) (by omega) (by omega) hL dL_law_617 ?_
  refine lv_aload_n hx hb dL_law_618 rfl (lv_at hl 4 rfl) ?_
  refine lv_iload hx hb dL_law_619 (lv_at hl 0 rfl) ?_
  refine lv_iconst (v := iI (3)) hx hb dL_law_621 rfl ?_
  refine ri_iadd hx hb dL_law_622 ?_
  refine h_sld hx hb hX hbl hbA hS (i + 3) (by omega) (by omega) hL dL_law_623 ?_
  refine lv_aload_n hx hb dL_law_624 rfl (lv_at hl 1 rfl) ?_
  by_cases hgd : 0 ≤ ys (i + 1) ∧ ys (i + 1) < F 4
  · skip
    obtain ⟨v, h_v⟩ := Int.eq_ofNat_of_zero_le (show 0 ≤ ys (i + 1) by omega)
    by_cases hgd2 : 0 ≤ ys (i + 2) ∧ ys (i + 2) < (C 24 (2 * v) + (if C 21 v = 0 then 0 else C 24 (2 * v + 1)) : Nat) ∧ 0 ≤ ys (i + 3) ∧ ys (i + 3) ≤ 2
    · skip
      obtain ⟨j, h_j⟩ := Int.eq_ofNat_of_zero_le (show 0 ≤ ys (i + 2) by omega)
      obtain ⟨w, h_w⟩ := Int.eq_ofNat_of_zero_le (show 0 ≤ ys (i + 3) by omega)
      rw [h_v, h_j, h_w]
      refine rc_I (W.runSW (n := 5) (As := [.ref (adC 0 0), .int (iI ((v : Nat))), .int (iI ((j : Nat))), .int (iI ((w : Nat))), .ref oa]) (rest := []) ⟨hx, hb, hml, hown, hts⟩ (hh_leg l D cA (ACs s.heap.size o oa ad) sa adC F C Z E 360 (by decide) hF hNC hZ hwf oa g acs_oa v j w (by omega) (by have h9 := hgd2.2.1; rw [h_j] at h9; exact Int.ofNat_lt.mp h9) (by omega)) (lw_SW q904 q905 q41 q906) rfl rfl (by decide +kernel) ⟨Nat.le_of_ble_eq_true rfl, Nat.le_of_ble_eq_true rfl⟩ (lpH hK hSX hTX hS hW hO) rfl rfl hl.1 rfl (lv_room (Nat.le_of_ble_eq_true rfl)) dL_law_625 ⟨by show cells + 0 ≤ 601024; omega, by show slots + 0 ≤ 7293034; omega⟩) hS (fun q _ h => ao_nw hon h) (fun q h => ao_nw hon h) (fun z H1 locs1 hp hS hz hq => ?_)
      have hM := keepM hM hoM hq
      obtain ⟨rfl, hW, hO⟩ := hp
      refine lv_istore (lv' := [(5, .int (iI (0))), (4, .int (iI ((i : Nat)))), (3, .ref oa), (2, .ref o), (1, .ref (adC 0 0)), (0, .ref b)]) hx hb dL_law_628 hl (by decide) rfl (fun ls hl => ?_)
      refine lv_aload_n hx hb dL_law_630 rfl (lv_at hl 3 rfl) ?_
      refine lv_aload_n hx hb dL_law_631 rfl (lv_at hl 5 rfl) ?_
      refine lv_iload hx hb dL_law_632 (lv_at hl 1 rfl) ?_
      refine lv_iconst (v := iI (1)) hx hb dL_law_634 rfl ?_
      refine ri_iadd hx hb dL_law_635 ?_
      refine h_sld hx hb hX hbl hbA hS (i + 1) (by omega) (by omega) hL dL_law_636 ?_
      refine lv_aload_n hx hb dL_law_637 rfl (lv_at hl 5 rfl) ?_
      refine lv_iload hx hb dL_law_638 (lv_at hl 1 rfl) ?_
      refine lv_iconst (v := iI (2)) hx hb dL_law_640 rfl ?_
      refine ri_iadd hx hb dL_law_641 ?_
      refine h_sld hx hb hX hbl hbA hS (i + 2) (by omega) (by omega) hL dL_law_642 ?_
      refine lv_aload_n hx hb dL_law_643 rfl (lv_at hl 5 rfl) ?_
      refine lv_iload hx hb dL_law_644 (lv_at hl 1 rfl) ?_
      refine lv_iconst (v := iI (3)) hx hb dL_law_646 rfl ?_
      refine ri_iadd hx hb dL_law_647 ?_
      refine h_sld hx hb hX hbl hbA hS (i + 3) (by omega) (by omega) hL dL_law_648 ?_
      rw [h_v, h_j, h_w]
      refine rc_I (W.runV (As := [.int (iI ((v : Nat))), .int (iI ((j : Nat))), .int (iI ((w : Nat)))]) (rest := []) ⟨hx, hb, hml, hown, hts⟩ (mm_leg l D cA (AMs o ad) o ad F G M X Z 360 (by decide) hF hG hNM hXB hZ v j w (by omega) (by rw [rd_legs hR]; exact (by have h9 := hgd2.2.1; rw [h_j] at h9; exact Int.ofNat_lt.mp h9)) (by omega)) (cwV 3 hts (lw_V q1226 q1227 q1228 q62 q1229) rfl rfl rfl (by decide +kernel) ⟨Nat.le_of_ble_eq_true rfl, Nat.le_of_ble_eq_true rfl⟩) (lpM hK hM) rfl rfl hl.1 rfl (lv_room (Nat.le_of_ble_eq_true rfl)) dL_law_649 ⟨by show cells + 0 + 0 ≤ 601024; omega, by show slots + 0 + 0 ≤ 7293034; omega⟩) hS (fun q _ h => hMn q h) (fun q h => hMn q h) (fun z H1 locs1 hp hS hz hq => ?_)
      have hW := keepC hW hF hNC hz hq
      have hO := hO.kept (hq _ hO.lt hoM)
      obtain ⟨rfl, hM⟩ := hp
      refine ri_top (b := legW C v j w) (by rw [rd_leg hR.2.2.1]) ?_
      refine lv_istore (lv' := [(6, .int (iI (legW C v j w))), (5, .int (iI (0))), (4, .int (iI ((i : Nat)))), (3, .ref oa), (2, .ref o), (1, .ref (adC 0 0)), (0, .ref b)]) hx hb dL_law_652 hl (by decide) rfl (fun ls hl => ?_)
      refine lv_aload_n hx hb dL_law_654 rfl (lv_at hl 4 rfl) ?_
      refine rc_V (W.runV (As := []) (rest := []) ⟨hx, hb, hml, hown, hts⟩ (mm_thrown l D cA (AMs o ad) o ad _ _ _ _ _ 360 (by decide) (hF.up (Nat.zero_le _)) hG (hNM) hXB (hZ)) (cwV 0 hts (lw_V q1090 q1091 q1092 q62 q1093) rfl rfl rfl (by decide +kernel) ⟨Nat.le_of_ble_eq_true rfl, Nat.le_of_ble_eq_true rfl⟩) (lpM hK hM) rfl rfl hl.1 rfl (lv_room (Nat.le_of_ble_eq_true rfl)) dL_law_655 ⟨by show cells + 0 + 0 + 0 ≤ 601024; omega, by show slots + 0 + 0 + 0 ≤ 7293034; omega⟩) ?_
      refine W.eq (g2 := F0 m 658 ls [.int (iI (0))]) rfl ?_
      refine lv_iload hx hb dL_law_658 (lv_at hl 1 rfl) ?_
      refine i_same (tgt := 665) hx hb dL_law_660 (by decide) ?_
      refine lv_iload hx hb dL_law_665 (lv_at hl 1 rfl) ?_
      refine ri_if_ne (tgt := 682) hx hb (by unfold inR; omega) dL_law_667 (by decide) (fun h1 => ?_) (fun h1 => ?_)
      · skip
        exfalso; omega
      · skip
        refine lv_aload_n hx hb dL_law_670 rfl (lv_at hl 3 rfl) ?_
        refine lv_iconst (v := iI (0)) hx hb dL_law_671 rfl ?_
        refine h_lald hx hb hK hO 0 rfl (by omega) (by decide) dL_law_672 ?_
        refine W.eq (g2 := F0 m 673 ls [.long ((iI (legW C v j w)).toInt64)]) rfl ?_
        refine lv_iload hx hb dL_law_673 (lv_at hl 0 rfl) ?_
        refine lv_i2l hx hb dL_law_675 rfl ?_
        refine l_same hx hb dL_law_676 ?_
        refine ri_if_eq (tgt := 682) hx hb (by unfold inR; omega) dL_law_677 (by decide) (fun h2 => ?_) (fun h2 => ?_)
        · skip
          refine lv_goto (tgt := 1014) hx hb dL_law_682 (by decide) ?_
          exact W.widen (k := cells + 430) (n := slots + 97000) (by omega) (by omega) (kk _ _ _ ⟨_, _, _, _, _, _, _, _, _, hM, hW.cgF rfl rfl rfl rfl rfl, hO, rfl, hR.F rfl rfl rfl, hNM, hF.up (Nat.zero_le _), hG, hXB⟩ hS (lv_sub hl [2, 3, 4, 5, 6] rfl))
        · skip
          exfalso; omega
    · skip
      rw [h_v]
      refine rc_I (W.runSW (n := 5) (As := [.ref (adC 0 0), .int (iI ((v : Nat))), .int (iI (ys (i + 2))), .int (iI (ys (i + 3))), .ref oa]) (rest := []) ⟨hx, hb, hml, hown, hts⟩ (hh_leg_u l hls D cA (ACs s.heap.size o oa ad) sa adC F C Z E 360 (by decide) hF hNC hZ hwf oa g acs_oa v (ys (i + 2)) (ys (i + 3)) (by omega) (hy _) (hy _) hgd2) (lw_SW q904 q905 q41 q906) rfl rfl (by decide +kernel) ⟨Nat.le_of_ble_eq_true rfl, Nat.le_of_ble_eq_true rfl⟩ (lpH hK hSX hTX hS hW hO) rfl rfl hl.1 rfl (lv_room (Nat.le_of_ble_eq_true rfl)) dL_law_625 ⟨by show cells + 1 ≤ 601024; omega, by show slots + 6 ≤ 7293034; omega⟩) hS (fun q _ h => ao_nw hon h) (fun q h => ao_nw hon h) (fun z H1 locs1 hp hS hz hq => ?_)
      have hM := keepM hM hoM hq
      obtain ⟨rfl, hW, hO⟩ := hp
      refine lv_istore (lv' := [(5, .int (iI (1))), (4, .int (iI ((i : Nat)))), (3, .ref oa), (2, .ref o), (1, .ref (adC 0 0)), (0, .ref b)]) hx hb dL_law_628 hl (by decide) rfl (fun ls hl => ?_)
      refine lv_aload_n hx hb dL_law_630 rfl (lv_at hl 3 rfl) ?_
      refine lv_aload_n hx hb dL_law_631 rfl (lv_at hl 5 rfl) ?_
      refine lv_iload hx hb dL_law_632 (lv_at hl 1 rfl) ?_
      refine lv_iconst (v := iI (1)) hx hb dL_law_634 rfl ?_
      refine ri_iadd hx hb dL_law_635 ?_
      refine h_sld hx hb hX hbl hbA hS (i + 1) (by omega) (by omega) hL dL_law_636 ?_
      refine lv_aload_n hx hb dL_law_637 rfl (lv_at hl 5 rfl) ?_
      refine lv_iload hx hb dL_law_638 (lv_at hl 1 rfl) ?_
      refine lv_iconst (v := iI (2)) hx hb dL_law_640 rfl ?_
      refine ri_iadd hx hb dL_law_641 ?_
      refine h_sld hx hb hX hbl hbA hS (i + 2) (by omega) (by omega) hL dL_law_642 ?_
      refine lv_aload_n hx hb dL_law_643 rfl (lv_at hl 5 rfl) ?_
      refine lv_iload hx hb dL_law_644 (lv_at hl 1 rfl) ?_
      refine lv_iconst (v := iI (3)) hx hb dL_law_646 rfl ?_
      refine ri_iadd hx hb dL_law_647 ?_
      refine h_sld hx hb hX hbl hbA hS (i + 3) (by omega) (by omega) hL dL_law_648 ?_
      refine rc_I (W.runV (As := [.int (iI (ys (i + 1))), .int (iI (ys (i + 2))), .int (iI (ys (i + 3)))]) (rest := []) ⟨hx, hb, hml, hown, hts⟩ (mm_leg_x l D cA (AMs o ad) o ad F G M X Z 360 (by decide) hF hG hNM hXB hZ (ys (i + 1)) (ys (i + 2)) (ys (i + 3)) (hy _) (hy _) (hy _) (fun ⟨a, j, w, h1, h2, h3, h4, h5, h6⟩ => by rw [rd_legs hR] at h5; have e : a = v := (by omega); rw [e] at h5; exact hgd2 ⟨by omega, by rw [h2]; exact Int.ofNat_lt.mpr h5, by omega, by omega⟩)) (cwV 3 hts (lw_V q1226 q1227 q1228 q62 q1229) rfl rfl rfl (by decide +kernel) ⟨Nat.le_of_ble_eq_true rfl, Nat.le_of_ble_eq_true rfl⟩) (lpM hK hM) rfl rfl hl.1 rfl (lv_room (Nat.le_of_ble_eq_true rfl)) dL_law_649 ⟨by show cells + 1 + 0 ≤ 601024; omega, by show slots + 6 + 0 ≤ 7293034; omega⟩) hS (fun q _ h => hMn q h) (fun q h => hMn q h) (fun z H1 locs1 hp hS hz hq => ?_)
      have hW := keepC hW hF hNC hz hq
      have hO := hO.kept (hq _ hO.lt hoM)
      have hM := hp
      refine lv_istore (lv' := [(6, .int (iI (z))), (5, .int (iI (1))), (4, .int (iI ((i : Nat)))), (3, .ref oa), (2, .ref o), (1, .ref (adC 0 0)), (0, .ref b)]) hx hb dL_law_652 hl (by decide) rfl (fun ls hl => ?_)
      refine lv_aload_n hx hb dL_law_654 rfl (lv_at hl 4 rfl) ?_
      refine rc_V (W.runV (As := []) (rest := []) ⟨hx, hb, hml, hown, hts⟩ (mm_thrown l D cA (AMs o ad) o ad _ _ _ _ _ 360 (by decide) (FB.up (hF.up (Nat.zero_le _)) (by show 1 ≤ 2; omega)) hG (hNM) hXB (hZ)) (cwV 0 hts (lw_V q1090 q1091 q1092 q62 q1093) rfl rfl rfl (by decide +kernel) ⟨Nat.le_of_ble_eq_true rfl, Nat.le_of_ble_eq_true rfl⟩) (lpM hK hM) rfl rfl hl.1 rfl (lv_room (Nat.le_of_ble_eq_true rfl)) dL_law_655 ⟨by show cells + 1 + 0 + 0 ≤ 601024; omega, by show slots + 6 + 0 + 0 ≤ 7293034; omega⟩) ?_
      refine W.eq (g2 := F0 m 658 ls [.int (iI (1))]) rfl ?_
      refine lv_iload hx hb dL_law_658 (lv_at hl 1 rfl) ?_
      refine i_same (tgt := 665) hx hb dL_law_660 (by decide) ?_
      refine lv_iload hx hb dL_law_665 (lv_at hl 1 rfl) ?_
      refine ri_if_ne (tgt := 682) hx hb (by unfold inR; omega) dL_law_667 (by decide) (fun h3 => ?_) (fun h3 => ?_)
      · skip
        refine lv_goto (tgt := 1014) hx hb dL_law_682 (by decide) ?_
        exact W.widen (k := cells + 430) (n := slots + 97000) (by omega) (by omega) (kk _ _ _ ⟨_, _, _, _, _, _, _, _, _, hM, hW.cgF rfl rfl rfl rfl rfl, hO, rfl, hR.F rfl rfl rfl, hNM, FB.up (hF.up (Nat.zero_le _)) (by show 1 ≤ 2; omega), hG, hXB⟩ hS (lv_sub hl [2, 3, 4, 5, 6] rfl))
      · skip
        exfalso; omega
  · skip
    refine rc_I (W.runSW (n := 5) (As := [.ref (adC 0 0), .int (iI (ys (i + 1))), .int (iI (ys (i + 2))), .int (iI (ys (i + 3))), .ref oa]) (rest := []) ⟨hx, hb, hml, hown, hts⟩ (hh_leg_t l hls D cA (ACs s.heap.size o oa ad) sa adC F C Z E 360 (by decide) hF hNC hZ hwf oa g acs_oa (ys (i + 1)) (ys (i + 2)) (ys (i + 3)) (hy _) hgd) (lw_SW q904 q905 q41 q906) rfl rfl (by decide +kernel) ⟨Nat.le_of_ble_eq_true rfl, Nat.le_of_ble_eq_true rfl⟩ (lpH hK hSX hTX hS hW hO) rfl rfl hl.1 rfl (lv_room (Nat.le_of_ble_eq_true rfl)) dL_law_625 ⟨by show cells + 1 ≤ 601024; omega, by show slots + 6 ≤ 7293034; omega⟩) hS (fun q _ h => ao_nw hon h) (fun q h => ao_nw hon h) (fun z H1 locs1 hp hS hz hq => ?_)
    have hM := keepM hM hoM hq
    obtain ⟨rfl, hW, hO⟩ := hp
    refine lv_istore (lv' := [(5, .int (iI (1))), (4, .int (iI ((i : Nat)))), (3, .ref oa), (2, .ref o), (1, .ref (adC 0 0)), (0, .ref b)]) hx hb dL_law_628 hl (by decide) rfl (fun ls hl => ?_)
    refine lv_aload_n hx hb dL_law_630 rfl (lv_at hl 3 rfl) ?_
    refine lv_aload_n hx hb dL_law_631 rfl (lv_at hl 5 rfl) ?_
    refine lv_iload hx hb dL_law_632 (lv_at hl 1 rfl) ?_
    refine lv_iconst (v := iI (1)) hx hb dL_law_634 rfl ?_
    refine ri_iadd hx hb dL_law_635 ?_
    refine h_sld hx hb hX hbl hbA hS (i + 1) (by omega) (by omega) hL dL_law_636 ?_
    refine lv_aload_n hx hb dL_law_637 rfl (lv_at hl 5 rfl) ?_
    refine lv_iload hx hb dL_law_638 (lv_at hl 1 rfl) ?_
    refine lv_iconst (v := iI (2)) hx hb dL_law_640 rfl ?_
    refine ri_iadd hx hb dL_law_641 ?_
    refine h_sld hx hb hX hbl hbA hS (i + 2) (by omega) (by omega) hL dL_law_642 ?_
    refine lv_aload_n hx hb dL_law_643 rfl (lv_at hl 5 rfl) ?_
    refine lv_iload hx hb dL_law_644 (lv_at hl 1 rfl) ?_
    refine lv_iconst (v := iI (3)) hx hb dL_law_646 rfl ?_
    refine ri_iadd hx hb dL_law_647 ?_
    refine h_sld hx hb hX hbl hbA hS (i + 3) (by omega) (by omega) hL dL_law_648 ?_
    refine rc_I (W.runV (As := [.int (iI (ys (i + 1))), .int (iI (ys (i + 2))), .int (iI (ys (i + 3)))]) (rest := []) ⟨hx, hb, hml, hown, hts⟩ (mm_leg_x l D cA (AMs o ad) o ad F G M X Z 360 (by decide) hF hG hNM hXB hZ (ys (i + 1)) (ys (i + 2)) (ys (i + 3)) (hy _) (hy _) (hy _) (fun ⟨a, j, w, h1, h2, h3, h4, h5, h6⟩ => hgd (by omega))) (cwV 3 hts (lw_V q1226 q1227 q1228 q62 q1229) rfl rfl rfl (by decide +kernel) ⟨Nat.le_of_ble_eq_true rfl, Nat.le_of_ble_eq_true rfl⟩) (lpM hK hM) rfl rfl hl.1 rfl (lv_room (Nat.le_of_ble_eq_true rfl)) dL_law_649 ⟨by show cells + 1 + 0 ≤ 601024; omega, by show slots + 6 + 0 ≤ 7293034; omega⟩) hS (fun q _ h => hMn q h) (fun q h => hMn q h) (fun z H1 locs1 hp hS hz hq => ?_)
    have hW := keepC hW hF hNC hz hq
    have hO := hO.kept (hq _ hO.lt hoM)
    have hM := hp
    refine lv_istore (lv' := [(6, .int (iI (z))), (5, .int (iI (1))), (4, .int (iI ((i : Nat)))), (3, .ref oa), (2, .ref o), (1, .ref (adC 0 0)), (0, .ref b)]) hx hb dL_law_652 hl (by decide) rfl (fun ls hl => ?_)
    refine lv_aload_n hx hb dL_law_654 rfl (lv_at hl 4 rfl) ?_
    refine rc_V (W.runV (As := []) (rest := []) ⟨hx, hb, hml, hown, hts⟩ (mm_thrown l D cA (AMs o ad) o ad _ _ _ _ _ 360 (by decide) (FB.up (hF.up (Nat.zero_le _)) (by show 1 ≤ 2; omega)) hG (hNM) hXB (hZ)) (cwV 0 hts (lw_V q1090 q1091 q1092 q62 q1093) rfl rfl rfl (by decide +kernel) ⟨Nat.le_of_ble_eq_true rfl, Nat.le_of_ble_eq_true rfl⟩) (lpM hK hM) rfl rfl hl.1 rfl (lv_room (Nat.le_of_ble_eq_true rfl)) dL_law_655 ⟨by show cells + 1 + 0 + 0 ≤ 601024; omega, by show slots + 6 + 0 + 0 ≤ 7293034; omega⟩) ?_
    refine W.eq (g2 := F0 m 658 ls [.int (iI (1))]) rfl ?_
    refine lv_iload hx hb dL_law_658 (lv_at hl 1 rfl) ?_
    refine i_same (tgt := 665) hx hb dL_law_660 (by decide) ?_
    refine lv_iload hx hb dL_law_665 (lv_at hl 1 rfl) ?_
    refine ri_if_ne (tgt := 682) hx hb (by unfold inR; omega) dL_law_667 (by decide) (fun h4 => ?_) (fun h4 => ?_)
    · skip
      refine lv_goto (tgt := 1014) hx hb dL_law_682 (by decide) ?_
      exact W.widen (k := cells + 430) (n := slots + 97000) (by omega) (by omega) (kk _ _ _ ⟨_, _, _, _, _, _, _, _, _, hM, hW.cgF rfl rfl rfl rfl rfl, hO, rfl, hR.F rfl rfl rfl, hNM, FB.up (hF.up (Nat.zero_le _)) (by show 1 ≤ 2; omega), hG, hXB⟩ hS (lv_sub hl [2, 3, 4, 5, 6] rfl))
    · skip
      exfalso; omega
