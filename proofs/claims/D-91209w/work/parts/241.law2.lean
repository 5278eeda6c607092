set_option maxRecDepth 100000
set_option maxHeartbeats 4000000 in
set_option maxRecDepth 100000 in
theorem lc_where {p : Program} {l : Launch} {e : Env} {s : State} {m : MethodId} {below : List Frame} {meth : Method} {c : Code} {b L : Nat} {ys : Nat → Int} {D : va_G} {cA : Nat → ClassId} {sa : Nat → Nat} {o xo oa : Nat} {ad : Nat → Nat} (hls : l.stackTraces = false) (hC : LX p s m c b L ys D cA sa o oa ad) {H : Heap} {locs : List Loc} {ls : Array Slot} {cells slots i : Nat} (hi : i + 7 ≤ L) (hLI : LI D cA sa s.heap.size o xo oa ad H) (hS : va_S (nw s) s.heap H locs) (hl : lv_has ls 7 [(4, .int (iI ((i : Nat)))), (3, .ref oa), (2, .ref o), (1, .ref xo), (0, .ref b)]) (hc : cells + 430 ≤ 601024) (hs : slots + 97000 ≤ 7293034) (kk : ∀ (H1 : Heap) (locs1 : List Loc) (ls1 : Array Slot), LI D cA sa s.heap.size o xo oa ad H1 → va_S (nw s) s.heap H1 locs1 → lv_has ls1 7 [(4, .int (iI ((i : Nat)))), (3, .ref oa), (2, .ref o), (1, .ref xo), (0, .ref b)] → W p l e room_1 s m #[Value.ref b] below meth c H1 locs1 (cells + 430) (slots + 97000) (lw_Z below #[Value.ref b] s) (F0 m 1014 ls1 [])) : W p l e room_1 s m #[Value.ref b] below meth c H locs cells slots (lw_Z below #[Value.ref b] s) (F0 m 753 ls []) := by
  obtain ⟨hx, hb, hml, hown, hts, hK, hSX, hTX, hNc, hX, hbl, hy, hL, hoM, hon, hMn⟩ := hC
  obtain ⟨F, G, M, X, C, Z, E, adC, g, hM, hW, hO, rfl, hR, hNM, hF, hG, hXB⟩ := hLI
  have hNC := hR.1.1.2.1
  have hwf := hR.1.1.1
  have hZ := hR.1.ZB
  have hbA : ¬ nw s b := fun h => by unfold nw at h; omega
  have hF1 : F 1 ≤ 1439 := hF 1
  have hF2 : F 2 ≤ 10 := hF 2
  have hF3 : F 3 ≤ 16 := hF 3
  have hF4 : F 4 ≤ 60 := hF 4
  have hF5 : F 5 ≤ 40 := hF 5
  refine lv_aload_n hx hb dL_law_753 rfl (lv_at hl 3 rfl) ?_
  refine lv_aload_n hx hb dL_law_754 rfl (lv_at hl 4 rfl) ?_
  refine lv_iload hx hb dL_law_755 (lv_at hl 0 rfl) ?_
  refine lv_iconst (v := iI (1)) hx hb dL_law_757 rfl ?_
  refine ri_iadd hx hb dL_law_758 ?_
  refine h_sld hx hb hX hbl hbA hS (i + 1) (by omega) (by omega) hL dL_law_759 ?_
  refine lv_aload_n hx hb dL_law_760 rfl (lv_at hl 1 rfl) ?_
  by_cases hgd : 0 ≤ ys (i + 1) ∧ ys (i + 1) < F 4
  · skip
    obtain ⟨v, h_v⟩ := Int.eq_ofNat_of_zero_le (show 0 ≤ ys (i + 1) by omega)
    rw [h_v]
    refine rc_I (W.runSW (n := 3) (As := [.ref (adC 0 0), .int (iI ((v : Nat))), .ref oa]) (rest := []) ⟨hx, hb, hml, hown, hts⟩ (hh_where l D cA (ACs s.heap.size o oa ad) sa adC F C Z E 360 (by decide) hF hNC hZ hwf oa g acs_oa v (by omega)) (lw_SW q918 q919 q41 q920) rfl rfl (by decide +kernel) ⟨Nat.le_of_ble_eq_true rfl, Nat.le_of_ble_eq_true rfl⟩ (lpH hK hSX hTX hS hW hO) rfl rfl hl.1 rfl (lv_room (Nat.le_of_ble_eq_true rfl)) dL_law_761 ⟨by show cells + 0 ≤ 601024; omega, by show slots + 0 ≤ 7293034; omega⟩) hS (fun q _ h => ao_nw hon h) (fun q h => ao_nw hon h) (fun z H1 locs1 hp hS hz hq => ?_)
    have hM := keepM hM hoM hq
    obtain ⟨rfl, hW, hO⟩ := hp
    refine lv_istore (lv' := [(5, .int (iI (0))), (4, .int (iI ((i : Nat)))), (3, .ref oa), (2, .ref o), (1, .ref (adC 0 0)), (0, .ref b)]) hx hb dL_law_764 hl (by decide) rfl (fun ls hl => ?_)
    refine lv_aload_n hx hb dL_law_766 rfl (lv_at hl 3 rfl) ?_
    refine lv_aload_n hx hb dL_law_767 rfl (lv_at hl 5 rfl) ?_
    refine lv_iload hx hb dL_law_768 (lv_at hl 1 rfl) ?_
    refine lv_iconst (v := iI (1)) hx hb dL_law_770 rfl ?_
    refine ri_iadd hx hb dL_law_771 ?_
    refine h_sld hx hb hX hbl hbA hS (i + 1) (by omega) (by omega) hL dL_law_772 ?_
    rw [h_v]
    refine rc_I (W.runV (As := [.int (iI ((v : Nat)))]) (rest := []) ⟨hx, hb, hml, hown, hts⟩ (mm_where l D cA (AMs o ad) o ad F G M X Z 360 (by decide) hF hG hNM hXB hZ v (by omega)) (cwV 1 hts (lw_V q1234 q1235 q1236 q62 q1237) rfl rfl rfl (by decide +kernel) ⟨Nat.le_of_ble_eq_true rfl, Nat.le_of_ble_eq_true rfl⟩) (lpM hK hM) rfl rfl hl.1 rfl (lv_room (Nat.le_of_ble_eq_true rfl)) dL_law_773 ⟨by show cells + 0 + 0 ≤ 601024; omega, by show slots + 0 + 0 ≤ 7293034; omega⟩) hS (fun q _ h => hMn q h) (fun q h => hMn q h) (fun z H1 locs1 hp hS hz hq => ?_)
    have hW := keepC hW hF hNC hz hq
    have hO := hO.kept (hq _ hO.lt hoM)
    obtain ⟨rfl, hM⟩ := hp
    refine ri_top (b := whC F C (wayN C v)) (rd_wh hR (by omega)) ?_
    refine lv_istore (lv' := [(6, .int (iI (whC F C (wayN C v)))), (5, .int (iI (0))), (4, .int (iI ((i : Nat)))), (3, .ref oa), (2, .ref o), (1, .ref (adC 0 0)), (0, .ref b)]) hx hb dL_law_776 hl (by decide) rfl (fun ls hl => ?_)
    refine lv_aload_n hx hb dL_law_778 rfl (lv_at hl 4 rfl) ?_
    refine rc_V (W.runV (As := []) (rest := []) ⟨hx, hb, hml, hown, hts⟩ (mm_thrown l D cA (AMs o ad) o ad _ _ _ _ _ 360 (by decide) (hF.up (Nat.zero_le _)) hG (hNM) hXB (hZ)) (cwV 0 hts (lw_V q1090 q1091 q1092 q62 q1093) rfl rfl rfl (by decide +kernel) ⟨Nat.le_of_ble_eq_true rfl, Nat.le_of_ble_eq_true rfl⟩) (lpM hK hM) rfl rfl hl.1 rfl (lv_room (Nat.le_of_ble_eq_true rfl)) dL_law_779 ⟨by show cells + 0 + 0 + 0 ≤ 601024; omega, by show slots + 0 + 0 + 0 ≤ 7293034; omega⟩) ?_
    refine W.eq (g2 := F0 m 782 ls [.int (iI (0))]) rfl ?_
    refine lv_iload hx hb dL_law_782 (lv_at hl 1 rfl) ?_
    refine i_same (tgt := 789) hx hb dL_law_784 (by decide) ?_
    refine lv_iload hx hb dL_law_789 (lv_at hl 1 rfl) ?_
    refine ri_if_ne (tgt := 806) hx hb (by unfold inR; omega) dL_law_791 (by decide) (fun h1 => ?_) (fun h1 => ?_)
    · skip
      exfalso; omega
    · skip
      refine lv_aload_n hx hb dL_law_794 rfl (lv_at hl 3 rfl) ?_
      refine lv_iconst (v := iI (0)) hx hb dL_law_795 rfl ?_
      refine h_lald hx hb hK hO 0 rfl (by omega) (by decide) dL_law_796 ?_
      refine W.eq (g2 := F0 m 797 ls [.long ((iI (whC F C (wayN C v))).toInt64)]) rfl ?_
      refine lv_iload hx hb dL_law_797 (lv_at hl 0 rfl) ?_
      refine lv_i2l hx hb dL_law_799 rfl ?_
      refine l_same hx hb dL_law_800 ?_
      refine ri_if_eq (tgt := 806) hx hb (by unfold inR; omega) dL_law_801 (by decide) (fun h2 => ?_) (fun h2 => ?_)
      · skip
        refine lv_goto (tgt := 1014) hx hb dL_law_806 (by decide) ?_
        exact W.widen (k := cells + 430) (n := slots + 97000) (by omega) (by omega) (kk _ _ _ ⟨_, _, _, _, _, _, _, _, _, hM, hW.cgF rfl rfl rfl rfl rfl, hO, rfl, hR.F rfl rfl rfl, hNM, hF.up (Nat.zero_le _), hG, hXB⟩ hS (lv_sub hl [2, 3, 4, 5, 6] rfl))
      · skip
        exfalso; omega
  · skip
    refine rc_I (W.runSW (n := 3) (As := [.ref (adC 0 0), .int (iI (ys (i + 1))), .ref oa]) (rest := []) ⟨hx, hb, hml, hown, hts⟩ (hh_where_t l hls D cA (ACs s.heap.size o oa ad) sa adC F C Z E 360 (by decide) hF hNC hZ hwf oa g acs_oa (ys (i + 1)) (hy _) hgd) (lw_SW q918 q919 q41 q920) rfl rfl (by decide +kernel) ⟨Nat.le_of_ble_eq_true rfl, Nat.le_of_ble_eq_true rfl⟩ (lpH hK hSX hTX hS hW hO) rfl rfl hl.1 rfl (lv_room (Nat.le_of_ble_eq_true rfl)) dL_law_761 ⟨by show cells + 1 ≤ 601024; omega, by show slots + 6 ≤ 7293034; omega⟩) hS (fun q _ h => ao_nw hon h) (fun q h => ao_nw hon h) (fun z H1 locs1 hp hS hz hq => ?_)
    have hM := keepM hM hoM hq
    obtain ⟨rfl, hW, hO⟩ := hp
    refine lv_istore (lv' := [(5, .int (iI (1))), (4, .int (iI ((i : Nat)))), (3, .ref oa), (2, .ref o), (1, .ref (adC 0 0)), (0, .ref b)]) hx hb dL_law_764 hl (by decide) rfl (fun ls hl => ?_)
    refine lv_aload_n hx hb dL_law_766 rfl (lv_at hl 3 rfl) ?_
    refine lv_aload_n hx hb dL_law_767 rfl (lv_at hl 5 rfl) ?_
    refine lv_iload hx hb dL_law_768 (lv_at hl 1 rfl) ?_
    refine lv_iconst (v := iI (1)) hx hb dL_law_770 rfl ?_
    refine ri_iadd hx hb dL_law_771 ?_
    refine h_sld hx hb hX hbl hbA hS (i + 1) (by omega) (by omega) hL dL_law_772 ?_
    refine rc_I (W.runV (As := [.int (iI (ys (i + 1)))]) (rest := []) ⟨hx, hb, hml, hown, hts⟩ (mm_where_x l D cA (AMs o ad) o ad F G M X Z 360 (by decide) hF hG hNM hXB hZ (ys (i + 1)) (hy _) (fun ⟨a, h1, h2⟩ => hgd (by omega))) (cwV 1 hts (lw_V q1234 q1235 q1236 q62 q1237) rfl rfl rfl (by decide +kernel) ⟨Nat.le_of_ble_eq_true rfl, Nat.le_of_ble_eq_true rfl⟩) (lpM hK hM) rfl rfl hl.1 rfl (lv_room (Nat.le_of_ble_eq_true rfl)) dL_law_773 ⟨by show cells + 1 + 0 ≤ 601024; omega, by show slots + 6 + 0 ≤ 7293034; omega⟩) hS (fun q _ h => hMn q h) (fun q h => hMn q h) (fun z H1 locs1 hp hS hz hq => ?_)
    have hW := keepC hW hF hNC hz hq
    have hO := hO.kept (hq _ hO.lt hoM)
    have hM := hp
    refine lv_istore (lv' := [(6, .int (iI (z))), (5, .int (iI (1))), (4, .int (iI ((i : Nat)))), (3, .ref oa), (2, .ref o), (1, .ref (adC 0 0)), (0, .ref b)]) hx hb dL_law_776 hl (by decide) rfl (fun ls hl => ?_)
    refine lv_aload_n hx hb dL_law_778 rfl (lv_at hl 4 rfl) ?_
    refine rc_V (W.runV (As := []) (rest := []) ⟨hx, hb, hml, hown, hts⟩ (mm_thrown l D cA (AMs o ad) o ad _ _ _ _ _ 360 (by decide) (FB.up (hF.up (Nat.zero_le _)) (by show 1 ≤ 2; omega)) hG (hNM) hXB (hZ)) (cwV 0 hts (lw_V q1090 q1091 q1092 q62 q1093) rfl rfl rfl (by decide +kernel) ⟨Nat.le_of_ble_eq_true rfl, Nat.le_of_ble_eq_true rfl⟩) (lpM hK hM) rfl rfl hl.1 rfl (lv_room (Nat.le_of_ble_eq_true rfl)) dL_law_779 ⟨by show cells + 1 + 0 + 0 ≤ 601024; omega, by show slots + 6 + 0 + 0 ≤ 7293034; omega⟩) ?_
    refine W.eq (g2 := F0 m 782 ls [.int (iI (1))]) rfl ?_
    refine lv_iload hx hb dL_law_782 (lv_at hl 1 rfl) ?_
    refine i_same (tgt := 789) hx hb dL_law_784 (by decide) ?_
    refine lv_iload hx hb dL_law_789 (lv_at hl 1 rfl) ?_
    refine ri_if_ne (tgt := 806) hx hb (by unfold inR; omega) dL_law_791 (by decide) (fun h3 => ?_) (fun h3 => ?_)
    · skip
      refine lv_goto (tgt := 1014) hx hb dL_law_806 (by decide) ?_
      exact W.widen (k := cells + 430) (n := slots + 97000) (by omega) (by omega) (kk _ _ _ ⟨_, _, _, _, _, _, _, _, _, hM, hW.cgF rfl rfl rfl rfl rfl, hO, rfl, hR.F rfl rfl rfl, hNM, FB.up (hF.up (Nat.zero_le _)) (by show 1 ≤ 2; omega), hG, hXB⟩ hS (lv_sub hl [2, 3, 4, 5, 6] rfl))
    · skip
      exfalso; omega

set_option maxHeartbeats 4000000 in
set_option maxRecDepth 100000 in
theorem lc_mark {p : Program} {l : Launch} {e : Env} {s : State} {m : MethodId} {below : List Frame} {meth : Method} {c : Code} {b L : Nat} {ys : Nat → Int} {D : va_G} {cA : Nat → ClassId} {sa : Nat → Nat} {o xo oa : Nat} {ad : Nat → Nat} (hls : l.stackTraces = false) (hC : LX p s m c b L ys D cA sa o oa ad) {H : Heap} {locs : List Loc} {ls : Array Slot} {cells slots i : Nat} (hi : i + 7 ≤ L) (hLI : LI D cA sa s.heap.size o xo oa ad H) (hS : va_S (nw s) s.heap H locs) (hl : lv_has ls 7 [(4, .int (iI ((i : Nat)))), (3, .ref oa), (2, .ref o), (1, .ref xo), (0, .ref b)]) (hc : cells + 430 ≤ 601024) (hs : slots + 97000 ≤ 7293034) (kk : ∀ (H1 : Heap) (locs1 : List Loc) (ls1 : Array Slot), LI D cA sa s.heap.size o xo oa ad H1 → va_S (nw s) s.heap H1 locs1 → lv_has ls1 7 [(4, .int (iI ((i : Nat)))), (3, .ref oa), (2, .ref o), (1, .ref xo), (0, .ref b)] → W p l e room_1 s m #[Value.ref b] below meth c H1 locs1 (cells + 430) (slots + 97000) (lw_Z below #[Value.ref b] s) (F0 m 1014 ls1 [])) : W p l e room_1 s m #[Value.ref b] below meth c H locs cells slots (lw_Z below #[Value.ref b] s) (F0 m 809 ls []) := by
  obtain ⟨hx, hb, hml, hown, hts, hK, hSX, hTX, hNc, hX, hbl, hy, hL, hoM, hon, hMn⟩ := hC
  obtain ⟨F, G, M, X, C, Z, E, adC, g, hM, hW, hO, rfl, hR, hNM, hF, hG, hXB⟩ := hLI
  have hNC := hR.1.1.2.1
  have hwf := hR.1.1.1
  have hZ := hR.1.ZB
  have hbA : ¬ nw s b := fun h => by unfold nw at h; omega
  have hF1 : F 1 ≤ 1439 := hF 1
  have hF2 : F 2 ≤ 10 := hF 2
  have hF3 : F 3 ≤ 16 := hF 3
  have hF4 : F 4 ≤ 60 := hF 4
  have hF5 : F 5 ≤ 40 := hF 5
  refine lv_aload_n hx hb dL_law_809 rfl (lv_at hl 3 rfl) ?_
  refine lv_aload_n hx hb dL_law_810 rfl (lv_at hl 4 rfl) ?_
  refine lv_iload hx hb dL_law_811 (lv_at hl 0 rfl) ?_
  refine lv_iconst (v := iI (1)) hx hb dL_law_813 rfl ?_
  refine ri_iadd hx hb dL_law_814 ?_
  refine h_sld hx hb hX hbl hbA hS (i + 1) (by omega) (by omega) hL dL_law_815 ?_
  refine lv_aload_n hx hb dL_law_816 rfl (lv_at hl 1 rfl) ?_
  by_cases hgd : 0 ≤ ys (i + 1) ∧ ys (i + 1) < F 4
  · skip
    obtain ⟨v, h_v⟩ := Int.eq_ofNat_of_zero_le (show 0 ≤ ys (i + 1) by omega)
    rw [h_v]
    refine rc_I (W.runSW (n := 3) (As := [.ref (adC 0 0), .int (iI ((v : Nat))), .ref oa]) (rest := []) ⟨hx, hb, hml, hown, hts⟩ (hh_mark l D cA (ACs s.heap.size o oa ad) sa adC F C Z E 360 (by decide) hF hNC hZ hwf oa g acs_oa v (by omega)) (lw_SW q929 q930 q41 q931) rfl rfl (by decide +kernel) ⟨Nat.le_of_ble_eq_true rfl, Nat.le_of_ble_eq_true rfl⟩ (lpH hK hSX hTX hS hW hO) rfl rfl hl.1 rfl (lv_room (Nat.le_of_ble_eq_true rfl)) dL_law_817 ⟨by show cells + 0 ≤ 601024; omega, by show slots + 0 ≤ 7293034; omega⟩) hS (fun q _ h => ao_nw hon h) (fun q h => ao_nw hon h) (fun z H1 locs1 hp hS hz hq => ?_)
    have hM := keepM hM hoM hq
    obtain ⟨rfl, hW, hO⟩ := hp
    refine lv_istore (lv' := [(5, .int (iI (0))), (4, .int (iI ((i : Nat)))), (3, .ref oa), (2, .ref o), (1, .ref (adC 0 0)), (0, .ref b)]) hx hb dL_law_820 hl (by decide) rfl (fun ls hl => ?_)
    refine lv_aload_n hx hb dL_law_822 rfl (lv_at hl 3 rfl) ?_
    refine lv_aload_n hx hb dL_law_823 rfl (lv_at hl 5 rfl) ?_
    refine lv_iload hx hb dL_law_824 (lv_at hl 1 rfl) ?_
    refine lv_iconst (v := iI (1)) hx hb dL_law_826 rfl ?_
    refine ri_iadd hx hb dL_law_827 ?_
    refine h_sld hx hb hX hbl hbA hS (i + 1) (by omega) (by omega) hL dL_law_828 ?_
    rw [h_v]
    refine rc_I (W.runV (As := [.int (iI ((v : Nat)))]) (rest := []) ⟨hx, hb, hml, hown, hts⟩ (mm_mark l D cA (AMs o ad) o ad F G M X Z 360 (by decide) hF hG hNM hXB hZ v (by omega)) (cwV 1 hts (lw_V q1238 q1239 q1240 q62 q1241) rfl rfl rfl (by decide +kernel) ⟨Nat.le_of_ble_eq_true rfl, Nat.le_of_ble_eq_true rfl⟩) (lpM hK hM) rfl rfl hl.1 rfl (lv_room (Nat.le_of_ble_eq_true rfl)) dL_law_829 ⟨by show cells + 0 + 0 ≤ 601024; omega, by show slots + 0 + 0 ≤ 7293034; omega⟩) hS (fun q _ h => hMn q h) (fun q h => hMn q h) (fun z H1 locs1 hp hS hz hq => ?_)
    have hW := keepC hW hF hNC hz hq
    have hO := hO.kept (hq _ hO.lt hoM)
    obtain ⟨rfl, hM⟩ := hp
    refine ri_top (b := if C 25 (2 * v) = 1 then (cntB (mkB (hsC C) C) (flB (hsC C) C v) : Int) else -1) (rd_mark hR (by omega)) ?_
    refine lv_istore (lv' := [(6, .int (iI (if C 25 (2 * v) = 1 then (cntB (mkB (hsC C) C) (flB (hsC C) C v) : Int) else -1))), (5, .int (iI (0))), (4, .int (iI ((i : Nat)))), (3, .ref oa), (2, .ref o), (1, .ref (adC 0 0)), (0, .ref b)]) hx hb dL_law_832 hl (by decide) rfl (fun ls hl => ?_)
    refine lv_aload_n hx hb dL_law_834 rfl (lv_at hl 4 rfl) ?_
    refine rc_V (W.runV (As := []) (rest := []) ⟨hx, hb, hml, hown, hts⟩ (mm_thrown l D cA (AMs o ad) o ad _ _ _ _ _ 360 (by decide) (hF.up (Nat.zero_le _)) hG (hNM) hXB (hZ)) (cwV 0 hts (lw_V q1090 q1091 q1092 q62 q1093) rfl rfl rfl (by decide +kernel) ⟨Nat.le_of_ble_eq_true rfl, Nat.le_of_ble_eq_true rfl⟩) (lpM hK hM) rfl rfl hl.1 rfl (lv_room (Nat.le_of_ble_eq_true rfl)) dL_law_835 ⟨by show cells + 0 + 0 + 0 ≤ 601024; omega, by show slots + 0 + 0 + 0 ≤ 7293034; omega⟩) ?_
    refine W.eq (g2 := F0 m 838 ls [.int (iI (0))]) rfl ?_
    refine lv_iload hx hb dL_law_838 (lv_at hl 1 rfl) ?_
    refine i_same (tgt := 845) hx hb dL_law_840 (by decide) ?_
    refine lv_iload hx hb dL_law_845 (lv_at hl 1 rfl) ?_
    refine ri_if_ne (tgt := 862) hx hb (by unfold inR; omega) dL_law_847 (by decide) (fun h1 => ?_) (fun h1 => ?_)
    · skip
      exfalso; omega
    · skip
      refine lv_aload_n hx hb dL_law_850 rfl (lv_at hl 3 rfl) ?_
      refine lv_iconst (v := iI (0)) hx hb dL_law_851 rfl ?_
      refine h_lald hx hb hK hO 0 rfl (by omega) (by decide) dL_law_852 ?_
      refine W.eq (g2 := F0 m 853 ls [.long ((iI (if C 25 (2 * v) = 1 then (cntB (mkB (hsC C) C) (flB (hsC C) C v) : Int) else -1)).toInt64)]) rfl ?_
      refine lv_iload hx hb dL_law_853 (lv_at hl 0 rfl) ?_
      refine lv_i2l hx hb dL_law_855 rfl ?_
      refine l_same hx hb dL_law_856 ?_
      refine ri_if_eq (tgt := 862) hx hb (by unfold inR; omega) dL_law_857 (by decide) (fun h2 => ?_) (fun h2 => ?_)
      · skip
        refine lv_goto (tgt := 1014) hx hb dL_law_862 (by decide) ?_
        exact W.widen (k := cells + 430) (n := slots + 97000) (by omega) (by omega) (kk _ _ _ ⟨_, _, _, _, _, _, _, _, _, hM, hW.cgF rfl rfl rfl rfl rfl, hO, rfl, hR.F rfl rfl rfl, hNM, hF.up (Nat.zero_le _), hG, hXB⟩ hS (lv_sub hl [2, 3, 4, 5, 6] rfl))
      · skip
        exfalso; omega
  · skip
    refine rc_I (W.runSW (n := 3) (As := [.ref (adC 0 0), .int (iI (ys (i + 1))), .ref oa]) (rest := []) ⟨hx, hb, hml, hown, hts⟩ (hh_mark_t l hls D cA (ACs s.heap.size o oa ad) sa adC F C Z E 360 (by decide) hF hNC hZ hwf oa g acs_oa (ys (i + 1)) (hy _) hgd) (lw_SW q929 q930 q41 q931) rfl rfl (by decide +kernel) ⟨Nat.le_of_ble_eq_true rfl, Nat.le_of_ble_eq_true rfl⟩ (lpH hK hSX hTX hS hW hO) rfl rfl hl.1 rfl (lv_room (Nat.le_of_ble_eq_true rfl)) dL_law_817 ⟨by show cells + 1 ≤ 601024; omega, by show slots + 6 ≤ 7293034; omega⟩) hS (fun q _ h => ao_nw hon h) (fun q h => ao_nw hon h) (fun z H1 locs1 hp hS hz hq => ?_)
    have hM := keepM hM hoM hq
    obtain ⟨rfl, hW, hO⟩ := hp
    refine lv_istore (lv' := [(5, .int (iI (1))), (4, .int (iI ((i : Nat)))), (3, .ref oa), (2, .ref o), (1, .ref (adC 0 0)), (0, .ref b)]) hx hb dL_law_820 hl (by decide) rfl (fun ls hl => ?_)
    refine lv_aload_n hx hb dL_law_822 rfl (lv_at hl 3 rfl) ?_
    refine lv_aload_n hx hb dL_law_823 rfl (lv_at hl 5 rfl) ?_
    refine lv_iload hx hb dL_law_824 (lv_at hl 1 rfl) ?_
    refine lv_iconst (v := iI (1)) hx hb dL_law_826 rfl ?_
    refine ri_iadd hx hb dL_law_827 ?_
    refine h_sld hx hb hX hbl hbA hS (i + 1) (by omega) (by omega) hL dL_law_828 ?_
    refine rc_I (W.runV (As := [.int (iI (ys (i + 1)))]) (rest := []) ⟨hx, hb, hml, hown, hts⟩ (mm_mark_x l D cA (AMs o ad) o ad F G M X Z 360 (by decide) hF hG hNM hXB hZ (ys (i + 1)) (hy _) (fun ⟨a, h1, h2⟩ => hgd (by omega))) (cwV 1 hts (lw_V q1238 q1239 q1240 q62 q1241) rfl rfl rfl (by decide +kernel) ⟨Nat.le_of_ble_eq_true rfl, Nat.le_of_ble_eq_true rfl⟩) (lpM hK hM) rfl rfl hl.1 rfl (lv_room (Nat.le_of_ble_eq_true rfl)) dL_law_829 ⟨by show cells + 1 + 0 ≤ 601024; omega, by show slots + 6 + 0 ≤ 7293034; omega⟩) hS (fun q _ h => hMn q h) (fun q h => hMn q h) (fun z H1 locs1 hp hS hz hq => ?_)
    have hW := keepC hW hF hNC hz hq
    have hO := hO.kept (hq _ hO.lt hoM)
    have hM := hp
    refine lv_istore (lv' := [(6, .int (iI (z))), (5, .int (iI (1))), (4, .int (iI ((i : Nat)))), (3, .ref oa), (2, .ref o), (1, .ref (adC 0 0)), (0, .ref b)]) hx hb dL_law_832 hl (by decide) rfl (fun ls hl => ?_)
    refine lv_aload_n hx hb dL_law_834 rfl (lv_at hl 4 rfl) ?_
    refine rc_V (W.runV (As := []) (rest := []) ⟨hx, hb, hml, hown, hts⟩ (mm_thrown l D cA (AMs o ad) o ad _ _ _ _ _ 360 (by decide) (FB.up (hF.up (Nat.zero_le _)) (by show 1 ≤ 2; omega)) hG (hNM) hXB (hZ)) (cwV 0 hts (lw_V q1090 q1091 q1092 q62 q1093) rfl rfl rfl (by decide +kernel) ⟨Nat.le_of_ble_eq_true rfl, Nat.le_of_ble_eq_true rfl⟩) (lpM hK hM) rfl rfl hl.1 rfl (lv_room (Nat.le_of_ble_eq_true rfl)) dL_law_835 ⟨by show cells + 1 + 0 + 0 ≤ 601024; omega, by show slots + 6 + 0 + 0 ≤ 7293034; omega⟩) ?_
    refine W.eq (g2 := F0 m 838 ls [.int (iI (1))]) rfl ?_
    refine lv_iload hx hb dL_law_838 (lv_at hl 1 rfl) ?_
    refine i_same (tgt := 845) hx hb dL_law_840 (by decide) ?_
    refine lv_iload hx hb dL_law_845 (lv_at hl 1 rfl) ?_
    refine ri_if_ne (tgt := 862) hx hb (by unfold inR; omega) dL_law_847 (by decide) (fun h3 => ?_) (fun h3 => ?_)
    · skip
      refine lv_goto (tgt := 1014) hx hb dL_law_862 (by decide) ?_
      exact W.widen (k := cells + 430) (n := slots + 97000) (by omega) (by omega) (kk _ _ _ ⟨_, _, _, _, _, _, _, _, _, hM, hW.cgF rfl rfl rfl rfl rfl, hO, rfl, hR.F rfl rfl rfl, hNM, FB.up (hF.up (Nat.zero_le _)) (by show 1 ≤ 2; omega), hG, hXB⟩ hS (lv_sub hl [2, 3, 4, 5, 6] rfl))
    · skip
      exfalso; omega

set_option maxHeartbeats 4000000 in
set_option maxRecDepth 100000 in
theorem lc_count {p : Program} {l : Launch} {e : Env} {s : State} {m : MethodId} {below : List Frame} {meth : Method} {c : Code} {b L : Nat} {ys : Nat → Int} {D : va_G} {cA : Nat → ClassId} {sa : Nat → Nat} {o xo oa : Nat} {ad : Nat → Nat} (hls : l.stackTraces = false) (hC : LX p s m c b L ys D cA sa o oa ad) {H : Heap} {locs : List Loc} {ls : Array Slot} {cells slots i : Nat} (hi : i + 7 ≤ L) (hLI : LI D cA sa s.heap.size o xo oa ad H) (hS : va_S (nw s) s.heap H locs) (hl : lv_has ls 7 [(4, .int (iI ((i : Nat)))), (3, .ref oa), (2, .ref o), (1, .ref xo), (0, .ref b)]) (hc : cells + 430 ≤ 601024) (hs : slots + 97000 ≤ 7293034) (kk : ∀ (H1 : Heap) (locs1 : List Loc) (ls1 : Array Slot), LI D cA sa s.heap.size o xo oa ad H1 → va_S (nw s) s.heap H1 locs1 → lv_has ls1 7 [(4, .int (iI ((i : Nat)))), (3, .ref oa), (2, .ref o), (1, .ref xo), (0, .ref b)] → W p l e room_1 s m #[Value.ref b] below meth c H1 locs1 (cells + 430) (slots + 97000) (lw_Z below #[Value.ref b] s) (F0 m 1014 ls1 [])) : W p l e room_1 s m #[Value.ref b] below meth c H locs cells slots (lw_Z below #[Value.ref b] s) (F0 m 958 ls []) := by
  obtain ⟨hx, hb, hml, hown, hts, hK, hSX, hTX, hNc, hX, hbl, hy, hL, hoM, hon, hMn⟩ := hC
  obtain ⟨F, G, M, X, C, Z, E, adC, g, hM, hW, hO, rfl, hR, hNM, hF, hG, hXB⟩ := hLI
  have hNC := hR.1.1.2.1
  have hwf := hR.1.1.1
  have hZ := hR.1.ZB
  have hbA : ¬ nw s b := fun h => by unfold nw at h; omega
  have hF1 : F 1 ≤ 1439 := hF 1
  have hF2 : F 2 ≤ 10 := hF 2
  have hF3 : F 3 ≤ 16 := hF 3
  have hF4 : F 4 ≤ 60 := hF 4
  have hF5 : F 5 ≤ 40 := hF 5
  refine lv_aload_n hx hb dL_law_958 rfl (lv_at hl 3 rfl) ?_
  refine lv_aload_n hx hb dL_law_959 rfl (lv_at hl 4 rfl) ?_
  refine lv_iload hx hb dL_law_960 (lv_at hl 0 rfl) ?_
  refine lv_iconst (v := iI (1)) hx hb dL_law_962 rfl ?_
  refine ri_iadd hx hb dL_law_963 ?_
  refine h_sld hx hb hX hbl hbA hS (i + 1) (by omega) (by omega) hL dL_law_964 ?_
  refine lv_aload_n hx hb dL_law_965 rfl (lv_at hl 1 rfl) ?_
  by_cases hgd : 0 ≤ ys (i + 1) ∧ ys (i + 1) ≤ 7
  · skip
    obtain ⟨v, h_v⟩ := Int.eq_ofNat_of_zero_le (show 0 ≤ ys (i + 1) by omega)
    rw [h_v]
    refine rc_I (W.runSW (n := 3) (As := [.ref (adC 0 0), .int (iI ((v : Nat))), .ref oa]) (rest := []) ⟨hx, hb, hml, hown, hts⟩ (hh_count l D cA (ACs s.heap.size o oa ad) sa adC F C Z E 360 (by decide) hF hNC hZ hwf oa g acs_oa v (by omega)) (lw_SW q961 q962 q41 q963) rfl rfl (by decide +kernel) ⟨Nat.le_of_ble_eq_true rfl, Nat.le_of_ble_eq_true rfl⟩ (lpH hK hSX hTX hS hW hO) rfl rfl hl.1 rfl (lv_room (Nat.le_of_ble_eq_true rfl)) dL_law_966 ⟨by show cells + 0 ≤ 601024; omega, by show slots + 0 ≤ 7293034; omega⟩) hS (fun q _ h => ao_nw hon h) (fun q h => ao_nw hon h) (fun z H1 locs1 hp hS hz hq => ?_)
    have hM := keepM hM hoM hq
    obtain ⟨rfl, hW, hO⟩ := hp
    refine lv_istore (lv' := [(5, .int (iI (0))), (4, .int (iI ((i : Nat)))), (3, .ref oa), (2, .ref o), (1, .ref (adC 0 0)), (0, .ref b)]) hx hb dL_law_969 hl (by decide) rfl (fun ls hl => ?_)
    refine lv_aload_n hx hb dL_law_971 rfl (lv_at hl 3 rfl) ?_
    refine lv_aload_n hx hb dL_law_972 rfl (lv_at hl 5 rfl) ?_
    refine lv_iload hx hb dL_law_973 (lv_at hl 1 rfl) ?_
    refine lv_iconst (v := iI (1)) hx hb dL_law_975 rfl ?_
    refine ri_iadd hx hb dL_law_976 ?_
    refine h_sld hx hb hX hbl hbA hS (i + 1) (by omega) (by omega) hL dL_law_977 ?_
    rw [h_v]
    refine rc_I (W.runV (As := [.int (iI ((v : Nat)))]) (rest := []) ⟨hx, hb, hml, hown, hts⟩ (mm_count l D cA (AMs o ad) o ad F G M X Z 360 (by decide) hF hG hNM hXB hZ v (by omega)) (cwV 1 hts (lw_V q1263 q1264 q1265 q62 q1266) rfl rfl rfl (by decide +kernel) ⟨Nat.le_of_ble_eq_true rfl, Nat.le_of_ble_eq_true rfl⟩) (lpM hK hM) rfl rfl hl.1 rfl (lv_room (Nat.le_of_ble_eq_true rfl)) dL_law_978 ⟨by show cells + 0 + 0 ≤ 601024; omega, by show slots + 0 + 0 ≤ 7293034; omega⟩) hS (fun q _ h => hMn q h) (fun q h => hMn q h) (fun z H1 locs1 hp hS hz hq => ?_)
    have hW := keepC hW hF hNC hz hq
    have hO := hO.kept (hq _ hO.lt hoM)
    obtain ⟨rfl, hM⟩ := hp
    refine ri_top (b := cnC F C v) (by rw [rd_cnt hR]) ?_
    refine lv_istore (lv' := [(6, .int (iI (cnC F C v))), (5, .int (iI (0))), (4, .int (iI ((i : Nat)))), (3, .ref oa), (2, .ref o), (1, .ref (adC 0 0)), (0, .ref b)]) hx hb dL_law_981 hl (by decide) rfl (fun ls hl => ?_)
    refine lv_aload_n hx hb dL_law_983 rfl (lv_at hl 4 rfl) ?_
    refine rc_V (W.runV (As := []) (rest := []) ⟨hx, hb, hml, hown, hts⟩ (mm_thrown l D cA (AMs o ad) o ad _ _ _ _ _ 360 (by decide) (hF.up (Nat.zero_le _)) hG (hNM) hXB (hZ)) (cwV 0 hts (lw_V q1090 q1091 q1092 q62 q1093) rfl rfl rfl (by decide +kernel) ⟨Nat.le_of_ble_eq_true rfl, Nat.le_of_ble_eq_true rfl⟩) (lpM hK hM) rfl rfl hl.1 rfl (lv_room (Nat.le_of_ble_eq_true rfl)) dL_law_984 ⟨by show cells + 0 + 0 + 0 ≤ 601024; omega, by show slots + 0 + 0 + 0 ≤ 7293034; omega⟩) ?_
    refine W.eq (g2 := F0 m 987 ls [.int (iI (0))]) rfl ?_
    refine lv_iload hx hb dL_law_987 (lv_at hl 1 rfl) ?_
    refine i_same (tgt := 994) hx hb dL_law_989 (by decide) ?_
    refine lv_iload hx hb dL_law_994 (lv_at hl 1 rfl) ?_
    refine ri_if_ne (tgt := 1011) hx hb (by unfold inR; omega) dL_law_996 (by decide) (fun h1 => ?_) (fun h1 => ?_)
    · skip
      exfalso; omega
    · skip
      refine lv_aload_n hx hb dL_law_999 rfl (lv_at hl 3 rfl) ?_
      refine lv_iconst (v := iI (0)) hx hb dL_law_1000 rfl ?_
      refine h_lald hx hb hK hO 0 rfl (by omega) (by decide) dL_law_1001 ?_
      refine W.eq (g2 := F0 m 1002 ls [.long ((iI (cnC F C v)).toInt64)]) rfl ?_
      refine lv_iload hx hb dL_law_1002 (lv_at hl 0 rfl) ?_
      refine lv_i2l hx hb dL_law_1004 rfl ?_
      refine l_same hx hb dL_law_1005 ?_
      refine ri_if_eq (tgt := 1011) hx hb (by unfold inR; omega) dL_law_1006 (by decide) (fun h2 => ?_) (fun h2 => ?_)
      · skip
        refine lv_goto (tgt := 1014) hx hb dL_law_1011 (by decide) ?_
        exact W.widen (k := cells + 430) (n := slots + 97000) (by omega) (by omega) (kk _ _ _ ⟨_, _, _, _, _, _, _, _, _, hM, hW.cgF rfl rfl rfl rfl rfl, hO, rfl, hR.F rfl rfl rfl, hNM, hF.up (Nat.zero_le _), hG, hXB⟩ hS (lv_sub hl [2, 3, 4, 5, 6] rfl))
      · skip
        exfalso; omega
  · skip
    refine rc_I (W.runSW (n := 3) (As := [.ref (adC 0 0), .int (iI (ys (i + 1))), .ref oa]) (rest := []) ⟨hx, hb, hml, hown, hts⟩ (hh_count_t l hls D cA (ACs s.heap.size o oa ad) sa adC F C Z E 360 (by decide) hF hNC hZ hwf oa g acs_oa (ys (i + 1)) (hy _) hgd) (lw_SW q961 q962 q41 q963) rfl rfl (by decide +kernel) ⟨Nat.le_of_ble_eq_true rfl, Nat.le_of_ble_eq_true rfl⟩ (lpH hK hSX hTX hS hW hO) rfl rfl hl.1 rfl (lv_room (Nat.le_of_ble_eq_true rfl)) dL_law_966 ⟨by show cells + 1 ≤ 601024; omega, by show slots + 6 ≤ 7293034; omega⟩) hS (fun q _ h => ao_nw hon h) (fun q h => ao_nw hon h) (fun z H1 locs1 hp hS hz hq => ?_)
    have hM := keepM hM hoM hq
    obtain ⟨rfl, hW, hO⟩ := hp
    refine lv_istore (lv' := [(5, .int (iI (1))), (4, .int (iI ((i : Nat)))), (3, .ref oa), (2, .ref o), (1, .ref (adC 0 0)), (0, .ref b)]) hx hb dL_law_969 hl (by decide) rfl (fun ls hl => ?_)
    refine lv_aload_n hx hb dL_law_971 rfl (lv_at hl 3 rfl) ?_
    refine lv_aload_n hx hb dL_law_972 rfl (lv_at hl 5 rfl) ?_
    refine lv_iload hx hb dL_law_973 (lv_at hl 1 rfl) ?_
    refine lv_iconst (v := iI (1)) hx hb dL_law_975 rfl ?_
    refine ri_iadd hx hb dL_law_976 ?_
    refine h_sld hx hb hX hbl hbA hS (i + 1) (by omega) (by omega) hL dL_law_977 ?_
    refine rc_I (W.runV (As := [.int (iI (ys (i + 1)))]) (rest := []) ⟨hx, hb, hml, hown, hts⟩ (mm_count_x l D cA (AMs o ad) o ad F G M X Z 360 (by decide) hF hG hNM hXB hZ (ys (i + 1)) (hy _) (fun ⟨a, h1, h2⟩ => hgd (by omega))) (cwV 1 hts (lw_V q1263 q1264 q1265 q62 q1266) rfl rfl rfl (by decide +kernel) ⟨Nat.le_of_ble_eq_true rfl, Nat.le_of_ble_eq_true rfl⟩) (lpM hK hM) rfl rfl hl.1 rfl (lv_room (Nat.le_of_ble_eq_true rfl)) dL_law_978 ⟨by show cells + 1 + 0 ≤ 601024; omega, by show slots + 6 + 0 ≤ 7293034; omega⟩) hS (fun q _ h => hMn q h) (fun q h => hMn q h) (fun z H1 locs1 hp hS hz hq => ?_)
    have hW := keepC hW hF hNC hz hq
    have hO := hO.kept (hq _ hO.lt hoM)
    have hM := hp
    refine lv_istore (lv' := [(6, .int (iI (z))), (5, .int (iI (1))), (4, .int (iI ((i : Nat)))), (3, .ref oa), (2, .ref o), (1, .ref (adC 0 0)), (0, .ref b)]) hx hb dL_law_981 hl (by decide) rfl (fun ls hl => ?_)
    refine lv_aload_n hx hb dL_law_983 rfl (lv_at hl 4 rfl) ?_
    refine rc_V (W.runV (As := []) (rest := []) ⟨hx, hb, hml, hown, hts⟩ (mm_thrown l D cA (AMs o ad) o ad _ _ _ _ _ 360 (by decide) (FB.up (hF.up (Nat.zero_le _)) (by show 1 ≤ 2; omega)) hG (hNM) hXB (hZ)) (cwV 0 hts (lw_V q1090 q1091 q1092 q62 q1093) rfl rfl rfl (by decide +kernel) ⟨Nat.le_of_ble_eq_true rfl, Nat.le_of_ble_eq_true rfl⟩) (lpM hK hM) rfl rfl hl.1 rfl (lv_room (Nat.le_of_ble_eq_true rfl)) dL_law_984 ⟨by show cells + 1 + 0 + 0 ≤ 601024; omega, by show slots + 6 + 0 + 0 ≤ 7293034; omega⟩) ?_
    refine W.eq (g2 := F0 m 987 ls [.int (iI (1))]) rfl ?_
    refine lv_iload hx hb dL_law_987 (lv_at hl 1 rfl) ?_
    refine i_same (tgt := 994) hx hb dL_law_989 (by decide) ?_
    refine lv_iload hx hb dL_law_994 (lv_at hl 1 rfl) ?_
    refine ri_if_ne (tgt := 1011) hx hb (by unfold inR; omega) dL_law_996 (by decide) (fun h3 => ?_) (fun h3 => ?_)
    · skip
      refine lv_goto (tgt := 1014) hx hb dL_law_1011 (by decide) ?_
      exact W.widen (k := cells + 430) (n := slots + 97000) (by omega) (by omega) (kk _ _ _ ⟨_, _, _, _, _, _, _, _, _, hM, hW.cgF rfl rfl rfl rfl rfl, hO, rfl, hR.F rfl rfl rfl, hNM, FB.up (hF.up (Nat.zero_le _)) (by show 1 ≤ 2; omega), hG, hXB⟩ hS (lv_sub hl [2, 3, 4, 5, 6] rfl))
    · skip
      exfalso; omega

set_option maxHeartbeats 4000000 in
set_option maxRecDepth 100000 in
theorem lc_of {p : Program} {l : Launch} {e : Env} {s : State} {m : MethodId} {below : List Frame} {meth : Method} {c : Code} {b L : Nat} {ys : Nat → Int} {D : va_G} {cA : Nat → ClassId} {sa : Nat → Nat} {o xo oa : Nat} {ad : Nat → Nat} (hls : l.stackTraces = false) (hC : LX p s m c b L ys D cA sa o oa ad) {H : Heap} {locs : List Loc} {ls : Array Slot} {cells slots i : Nat} (hi : i + 7 ≤ L) (hLI : LI D cA sa s.heap.size o xo oa ad H) (hS : va_S (nw s) s.heap H locs) (hl : lv_has ls 7 [(4, .int (iI ((i : Nat)))), (3, .ref oa), (2, .ref o), (1, .ref xo), (0, .ref b)]) (hc : cells + 430 ≤ 601024) (hs : slots + 97000 ≤ 7293034) (kk : ∀ (H1 : Heap) (locs1 : List Loc) (ls1 : Array Slot), LI D cA sa s.heap.size o xo oa ad H1 → va_S (nw s) s.heap H1 locs1 → lv_has ls1 7 [(4, .int (iI ((i : Nat)))), (3, .ref oa), (2, .ref o), (1, .ref xo), (0, .ref b)] → W p l e room_1 s m #[Value.ref b] below meth c H1 locs1 (cells + 430) (slots + 97000) (lw_Z below #[Value.ref b] s) (F0 m 1014 ls1 [])) : W p l e room_1 s m #[Value.ref b] below meth c H locs cells slots (lw_Z below #[Value.ref b] s) (F0 m 537 ls []) := by
  obtain ⟨hx, hb, hml, hown, hts, hK, hSX, hTX, hNc, hX, hbl, hy, hL, hoM, hon, hMn⟩ := hC
  obtain ⟨F, G, M, X, C, Z, E, adC, g, hM, hW, hO, rfl, hR, hNM, hF, hG, hXB⟩ := hLI
  have hNC := hR.1.1.2.1
  have hwf := hR.1.1.1
  have hZ := hR.1.ZB
  have hbA : ¬ nw s b := fun h => by unfold nw at h; omega
  have hF1 : F 1 ≤ 1439 := hF 1
  have hF2 : F 2 ≤ 10 := hF 2
  have hF3 : F 3 ≤ 16 := hF 3
  have hF4 : F 4 ≤ 60 := hF 4
  have hF5 : F 5 ≤ 40 := hF 5
  refine lv_aload_n hx hb dL_law_537 rfl (lv_at hl 3 rfl) ?_
  refine lv_aload_n hx hb dL_law_538 rfl (lv_at hl 4 rfl) ?_
  refine lv_iload hx hb dL_law_539 (lv_at hl 0 rfl) ?_
  refine lv_iconst (v := iI (1)) hx hb dL_law_541 rfl ?_
  refine ri_iadd hx hb dL_law_542 ?_
  refine h_sld hx hb hX hbl hbA hS (i + 1) (by omega) (by omega) hL dL_law_543 ?_
  refine lv_aload_n hx hb dL_law_544 rfl (lv_at hl 4 rfl) ?_
  refine lv_iload hx hb dL_law_545 (lv_at hl 0 rfl) ?_
  refine lv_iconst (v := iI (2)) hx hb dL_law_547 rfl ?_
  refine ri_iadd hx hb dL_law_548 ?_
  refine h_sld hx hb hX hbl hbA hS (i + 2) (by omega) (by omega) hL dL_law_549 ?_
  refine lv_aload_n hx hb dL_law_550 rfl (lv_at hl 1 rfl) ?_
  by_cases hgd : 0 ≤ ys (i + 1) ∧ ys (i + 1) < F 4
  · skip
    by_cases hgd2 : 0 ≤ ys (i + 2) ∧ ys (i + 2) ≤ 6
    · skip
      obtain ⟨v, h_v⟩ := Int.eq_ofNat_of_zero_le (show 0 ≤ ys (i + 1) by omega)
      obtain ⟨w, h_w⟩ := Int.eq_ofNat_of_zero_le (show 0 ≤ ys (i + 2) by omega)
      rw [h_v, h_w]
      refine rc_I (W.runSW (n := 4) (As := [.ref (adC 0 0), .int (iI ((v : Nat))), .int (iI ((w : Nat))), .ref oa]) (rest := []) ⟨hx, hb, hml, hown, hts⟩ (hh_of l D cA (ACs s.heap.size o oa ad) sa adC F C Z E 360 (by decide) hF hNC hZ hwf oa g acs_oa v w (by omega) (by omega)) (lw_SW q888 q889 q41 q890) rfl rfl (by decide +kernel) ⟨Nat.le_of_ble_eq_true rfl, Nat.le_of_ble_eq_true rfl⟩ (lpH hK hSX hTX hS hW hO) rfl rfl hl.1 rfl (lv_room (Nat.le_of_ble_eq_true rfl)) dL_law_551 ⟨by show cells + 0 ≤ 601024; omega, by show slots + 0 ≤ 7293034; omega⟩) hS (fun q _ h => ao_nw hon h) (fun q h => ao_nw hon h) (fun z H1 locs1 hp hS hz hq => ?_)
      have hM := keepM hM hoM hq
      obtain ⟨rfl, hW, hO⟩ := hp
      refine lv_istore (lv' := [(5, .int (iI (0))), (4, .int (iI ((i : Nat)))), (3, .ref oa), (2, .ref o), (1, .ref (adC 0 0)), (0, .ref b)]) hx hb dL_law_554 hl (by decide) rfl (fun ls hl => ?_)
      refine lv_aload_n hx hb dL_law_556 rfl (lv_at hl 3 rfl) ?_
      refine lv_aload_n hx hb dL_law_557 rfl (lv_at hl 5 rfl) ?_
      refine lv_iload hx hb dL_law_558 (lv_at hl 1 rfl) ?_
      refine lv_iconst (v := iI (1)) hx hb dL_law_560 rfl ?_
      refine ri_iadd hx hb dL_law_561 ?_
      refine h_sld hx hb hX hbl hbA hS (i + 1) (by omega) (by omega) hL dL_law_562 ?_
      refine lv_aload_n hx hb dL_law_563 rfl (lv_at hl 5 rfl) ?_
      refine lv_iload hx hb dL_law_564 (lv_at hl 1 rfl) ?_
      refine lv_iconst (v := iI (2)) hx hb dL_law_566 rfl ?_
      refine ri_iadd hx hb dL_law_567 ?_
      refine h_sld hx hb hX hbl hbA hS (i + 2) (by omega) (by omega) hL dL_law_568 ?_
      rw [h_v, h_w]
      refine rc_I (W.runV (As := [.int (iI ((v : Nat))), .int (iI ((w : Nat)))]) (rest := []) ⟨hx, hb, hml, hown, hts⟩ (mm_of l D cA (AMs o ad) o ad F G M X Z 360 (by decide) hF hG hNM hXB hZ v w (by omega) (by omega)) (cwV 2 hts (lw_V q1214 q1215 q1216 q62 q1217) rfl rfl rfl (by decide +kernel) ⟨Nat.le_of_ble_eq_true rfl, Nat.le_of_ble_eq_true rfl⟩) (lpM hK hM) rfl rfl hl.1 rfl (lv_room (Nat.le_of_ble_eq_true rfl)) dL_law_569 ⟨by show cells + 0 + 0 ≤ 601024; omega, by show slots + 0 + 0 ≤ 7293034; omega⟩) hS (fun q _ h => hMn q h) (fun q h => hMn q h) (fun z H1 locs1 hp hS hz hq => ?_)
      have hW := keepC hW hF hNC hz hq
      have hO := hO.kept (hq _ hO.lt hoM)
      obtain ⟨rfl, hM⟩ := hp
      refine ri_top (b := ofC F C v w) (rd_of hR (by omega) _) ?_
      refine lv_istore (lv' := [(6, .int (iI (ofC F C v w))), (5, .int (iI (0))), (4, .int (iI ((i : Nat)))), (3, .ref oa), (2, .ref o), (1, .ref (adC 0 0)), (0, .ref b)]) hx hb dL_law_572 hl (by decide) rfl (fun ls hl => ?_)
      refine lv_aload_n hx hb dL_law_574 rfl (lv_at hl 4 rfl) ?_
      refine rc_V (W.runV (As := []) (rest := []) ⟨hx, hb, hml, hown, hts⟩ (mm_thrown l D cA (AMs o ad) o ad _ _ _ _ _ 360 (by decide) (hF.up (Nat.zero_le _)) hG (hNM) hXB (hZ)) (cwV 0 hts (lw_V q1090 q1091 q1092 q62 q1093) rfl rfl rfl (by decide +kernel) ⟨Nat.le_of_ble_eq_true rfl, Nat.le_of_ble_eq_true rfl⟩) (lpM hK hM) rfl rfl hl.1 rfl (lv_room (Nat.le_of_ble_eq_true rfl)) dL_law_575 ⟨by show cells + 0 + 0 + 0 ≤ 601024; omega, by show slots + 0 + 0 + 0 ≤ 7293034; omega⟩) ?_
      refine W.eq (g2 := F0 m 578 ls [.int (iI (0))]) rfl ?_
      refine lv_iload hx hb dL_law_578 (lv_at hl 1 rfl) ?_
      refine i_same (tgt := 585) hx hb dL_law_580 (by decide) ?_
      refine lv_iload hx hb dL_law_585 (lv_at hl 1 rfl) ?_
      refine ri_if_ne (tgt := 602) hx hb (by unfold inR; omega) dL_law_587 (by decide) (fun h1 => ?_) (fun h1 => ?_)
      · skip
        exfalso; omega
      · skip
        refine lv_aload_n hx hb dL_law_590 rfl (lv_at hl 3 rfl) ?_
        refine lv_iconst (v := iI (0)) hx hb dL_law_591 rfl ?_
        refine h_lald hx hb hK hO 0 rfl (by omega) (by decide) dL_law_592 ?_
        refine W.eq (g2 := F0 m 593 ls [.long ((iI (ofC F C v w)).toInt64)]) rfl ?_
        refine lv_iload hx hb dL_law_593 (lv_at hl 0 rfl) ?_
        refine lv_i2l hx hb dL_law_595 rfl ?_
        refine l_same hx hb dL_law_596 ?_
        refine ri_if_eq (tgt := 602) hx hb (by unfold inR; omega) dL_law_597 (by decide) (fun h2 => ?_) (fun h2 => ?_)
        · skip
          refine lv_goto (tgt := 1014) hx hb dL_law_602 (by decide) ?_
          exact W.widen (k := cells + 430) (n := slots + 97000) (by omega) (by omega) (kk _ _ _ ⟨_, _, _, _, _, _, _, _, _, hM, hW.cgF rfl rfl rfl rfl rfl, hO, rfl, hR.F rfl rfl rfl, hNM, hF.up (Nat.zero_le _), hG, hXB⟩ hS (lv_sub hl [2, 3, 4, 5, 6] rfl))
        · skip
          exfalso; omega
    · skip
      obtain ⟨v, h_v⟩ := Int.eq_ofNat_of_zero_le (show 0 ≤ ys (i + 1) by omega)
      rw [h_v]
      refine rc_I (W.runSW (n := 4) (As := [.ref (adC 0 0), .int (iI ((v : Nat))), .int (iI (ys (i + 2))), .ref oa]) (rest := []) ⟨hx, hb, hml, hown, hts⟩ (hh_of_u l hls D cA (ACs s.heap.size o oa ad) sa adC F C Z E 360 (by decide) hF hNC hZ hwf oa g acs_oa v (ys (i + 2)) (by omega) (hy _) hgd2) (lw_SW q888 q889 q41 q890) rfl rfl (by decide +kernel) ⟨Nat.le_of_ble_eq_true rfl, Nat.le_of_ble_eq_true rfl⟩ (lpH hK hSX hTX hS hW hO) rfl rfl hl.1 rfl (lv_room (Nat.le_of_ble_eq_true rfl)) dL_law_551 ⟨by show cells + 1 ≤ 601024; omega, by show slots + 6 ≤ 7293034; omega⟩) hS (fun q _ h => ao_nw hon h) (fun q h => ao_nw hon h) (fun z H1 locs1 hp hS hz hq => ?_)
      have hM := keepM hM hoM hq
      obtain ⟨rfl, hW, hO⟩ := hp
      refine lv_istore (lv' := [(5, .int (iI (1))), (4, .int (iI ((i : Nat)))), (3, .ref oa), (2, .ref o), (1, .ref (adC 0 0)), (0, .ref b)]) hx hb dL_law_554 hl (by decide) rfl (fun ls hl => ?_)
      refine lv_aload_n hx hb dL_law_556 rfl (lv_at hl 3 rfl) ?_
      refine lv_aload_n hx hb dL_law_557 rfl (lv_at hl 5 rfl) ?_
      refine lv_iload hx hb dL_law_558 (lv_at hl 1 rfl) ?_
      refine lv_iconst (v := iI (1)) hx hb dL_law_560 rfl ?_
      refine ri_iadd hx hb dL_law_561 ?_
      refine h_sld hx hb hX hbl hbA hS (i + 1) (by omega) (by omega) hL dL_law_562 ?_
      refine lv_aload_n hx hb dL_law_563 rfl (lv_at hl 5 rfl) ?_
      refine lv_iload hx hb dL_law_564 (lv_at hl 1 rfl) ?_
      refine lv_iconst (v := iI (2)) hx hb dL_law_566 rfl ?_
      refine ri_iadd hx hb dL_law_567 ?_
      refine h_sld hx hb hX hbl hbA hS (i + 2) (by omega) (by omega) hL dL_law_568 ?_
      refine rc_I (W.runV (As := [.int (iI (ys (i + 1))), .int (iI (ys (i + 2)))]) (rest := []) ⟨hx, hb, hml, hown, hts⟩ (mm_of_x l D cA (AMs o ad) o ad F G M X Z 360 (by decide) hF hG hNM hXB hZ (ys (i + 1)) (ys (i + 2)) (hy _) (hy _) (fun ⟨a, w, h1, h2, h3, h4⟩ => hgd2 (by omega))) (cwV 2 hts (lw_V q1214 q1215 q1216 q62 q1217) rfl rfl rfl (by decide +kernel) ⟨Nat.le_of_ble_eq_true rfl, Nat.le_of_ble_eq_true rfl⟩) (lpM hK hM) rfl rfl hl.1 rfl (lv_room (Nat.le_of_ble_eq_true rfl)) dL_law_569 ⟨by show cells + 1 + 0 ≤ 601024; omega, by show slots + 6 + 0 ≤ 7293034; omega⟩) hS (fun q _ h => hMn q h) (fun q h => hMn q h) (fun z H1 locs1 hp hS hz hq => ?_)
      have hW := keepC hW hF hNC hz hq
      have hO := hO.kept (hq _ hO.lt hoM)
      have hM := hp
      refine lv_istore (lv' := [(6, .int (iI (z))), (5, .int (iI (1))), (4, .int (iI ((i : Nat)))), (3, .ref oa), (2, .ref o), (1, .ref (adC 0 0)), (0, .ref b)]) hx hb dL_law_572 hl (by decide) rfl (fun ls hl => ?_)
      refine lv_aload_n hx hb dL_law_574 rfl (lv_at hl 4 rfl) ?_
      refine rc_V (W.runV (As := []) (rest := []) ⟨hx, hb, hml, hown, hts⟩ (mm_thrown l D cA (AMs o ad) o ad _ _ _ _ _ 360 (by decide) (FB.up (hF.up (Nat.zero_le _)) (by show 1 ≤ 2; omega)) hG (hNM) hXB (hZ)) (cwV 0 hts (lw_V q1090 q1091 q1092 q62 q1093) rfl rfl rfl (by decide +kernel) ⟨Nat.le_of_ble_eq_true rfl, Nat.le_of_ble_eq_true rfl⟩) (lpM hK hM) rfl rfl hl.1 rfl (lv_room (Nat.le_of_ble_eq_true rfl)) dL_law_575 ⟨by show cells + 1 + 0 + 0 ≤ 601024; omega, by show slots + 6 + 0 + 0 ≤ 7293034; omega⟩) ?_
      refine W.eq (g2 := F0 m 578 ls [.int (iI (1))]) rfl ?_
      refine lv_iload hx hb dL_law_578 (lv_at hl 1 rfl) ?_
      refine i_same (tgt := 585) hx hb dL_law_580 (by decide) ?_
      refine lv_iload hx hb dL_law_585 (lv_at hl 1 rfl) ?_
      refine ri_if_ne (tgt := 602) hx hb (by unfold inR; omega) dL_law_587 (by decide) (fun h3 => ?_) (fun h3 => ?_)
      · skip
        refine lv_goto (tgt := 1014) hx hb dL_law_602 (by decide) ?_
        exact W.widen (k := cells + 430) (n := slots + 97000) (by omega) (by omega) (kk _ _ _ ⟨_, _, _, _, _, _, _, _, _, hM, hW.cgF rfl rfl rfl rfl rfl, hO, rfl, hR.F rfl rfl rfl, hNM, FB.up (hF.up (Nat.zero_le _)) (by show 1 ≤ 2; omega), hG, hXB⟩ hS (lv_sub hl [2, 3, 4, 5, 6] rfl))
      · skip
        exfalso; omega
  · skip
    refine rc_I (W.runSW (n := 4) (As := [.ref (adC 0 0), .int (iI (ys (i + 1))), .int (iI (ys (i + 2))), .ref oa]) (rest := []) ⟨hx, hb, hml, hown, hts⟩ (hh_of_t l hls D cA (ACs s.heap.size o oa ad) sa adC F C Z E 360 (by decide) hF hNC hZ hwf oa g acs_oa (ys (i + 1)) (ys (i + 2)) (hy _) hgd) (lw_SW q888 q889 q41 q890) rfl rfl (by decide +kernel) ⟨Nat.le_of_ble_eq_true rfl, Nat.le_of_ble_eq_true rfl⟩ (lpH hK hSX hTX hS hW hO) rfl rfl hl.1 rfl (lv_room (Nat.le_of_ble_eq_true rfl)) dL_law_551 ⟨by show cells + 1 ≤ 601024; omega, by show slots + 6 ≤ 7293034; omega⟩) hS (fun q _ h => ao_nw hon h) (fun q h => ao_nw hon h) (fun z H1 locs1 hp hS hz hq => ?_)
    have hM := keepM hM hoM hq
    obtain ⟨rfl, hW, hO⟩ := hp
    refine lv_istore (lv' := [(5, .int (iI (1))), (4, .int (iI ((i : Nat)))), (3, .ref oa), (2, .ref o), (1, .ref (adC 0 0)), (0, .ref b)]) hx hb dL_law_554 hl (by decide) rfl (fun ls hl => ?_)
    refine lv_aload_n hx hb dL_law_556 rfl (lv_at hl 3 rfl) ?_
    refine lv_aload_n hx hb dL_law_557 rfl (lv_at hl 5 rfl) ?_
    refine lv_iload hx hb dL_law_558 (lv_at hl 1 rfl) ?_
    refine lv_iconst (v := iI (1)) hx hb dL_law_560 rfl ?_
    refine ri_iadd hx hb dL_law_561 ?_
    refine h_sld hx hb hX hbl hbA hS (i + 1) (by omega) (by omega) hL dL_law_562 ?_
    refine lv_aload_n hx hb dL_law_563 rfl (lv_at hl 5 rfl) ?_
    refine lv_iload hx hb dL_law_564 (lv_at hl 1 rfl) ?_
    refine lv_iconst (v := iI (2)) hx hb dL_law_566 rfl ?_
    refine ri_iadd hx hb dL_law_567 ?_
    refine h_sld hx hb hX hbl hbA hS (i + 2) (by omega) (by omega) hL dL_law_568 ?_
    refine rc_I (W.runV (As := [.int (iI (ys (i + 1))), .int (iI (ys (i + 2)))]) (rest := []) ⟨hx, hb, hml, hown, hts⟩ (mm_of_x l D cA (AMs o ad) o ad F G M X Z 360 (by decide) hF hG hNM hXB hZ (ys (i + 1)) (ys (i + 2)) (hy _) (hy _) (fun ⟨a, w, h1, h2, h3, h4⟩ => hgd (by omega))) (cwV 2 hts (lw_V q1214 q1215 q1216 q62 q1217) rfl rfl rfl (by decide +kernel) ⟨Nat.le_of_ble_eq_true rfl, Nat.le_of_ble_eq_true rfl⟩) (lpM hK hM) rfl rfl hl.1 rfl (lv_room (Nat.le_of_ble_eq_true rfl)) dL_law_569 ⟨by show cells + 1 + 0 ≤ 601024; omega, by show slots + 6 + 0 ≤ 7293034; omega⟩) hS (fun q _ h => hMn q h) (fun q h => hMn q h) (fun z H1 locs1 hp hS hz hq => ?_)
    have hW := keepC hW hF hNC hz hq
    have hO := hO.kept (hq _ hO.lt hoM)
    have hM := hp
    refine lv_istore (lv' := [(6, .int (iI (z))), (5, .int (iI (1))), (4, .int (iI ((i : Nat)))), (3, .ref oa), (2, .ref o), (1, .ref (adC 0 0)), (0, .ref b)]) hx hb dL_law_572 hl (by decide) rfl (fun ls hl => ?_)
    refine lv_aload_n hx hb dL_law_574 rfl (lv_at hl 4 rfl) ?_
    refine rc_V (W.runV (As := []) (rest := []) ⟨hx, hb, hml, hown, hts⟩ (mm_thrown l D cA (AMs o ad) o ad _ _ _ _ _ 360 (by decide) (FB.up (hF.up (Nat.zero_le _)) (by show 1 ≤ 2; omega)) hG (hNM) hXB (hZ)) (cwV 0 hts (lw_V q1090 q1091 q1092 q62 q1093) rfl rfl rfl (by decide +kernel) ⟨Nat.le_of_ble_eq_true rfl, Nat.le_of_ble_eq_true rfl⟩) (lpM hK hM) rfl rfl hl.1 rfl (lv_room (Nat.le_of_ble_eq_true rfl)) dL_law_575 ⟨by show cells + 1 + 0 + 0 ≤ 601024; omega, by show slots + 6 + 0 + 0 ≤ 7293034; omega⟩) ?_
    refine W.eq (g2 := F0 m 578 ls [.int (iI (1))]) rfl ?_
    refine lv_iload hx hb dL_law_578 (lv_at hl 1 rfl) ?_
    refine i_same (tgt := 585) hx hb dL_law_580 (by decide) ?_
    refine lv_iload hx hb dL_law_585 (lv_at hl 1 rfl) ?_
    refine ri_if_ne (tgt := 602) hx hb (by unfold inR; omega) dL_law_587 (by decide) (fun h4 => ?_) (fun h4 => ?_)
    · skip
      refine lv_goto (tgt := 1014) hx hb dL_law_602 (by decide) ?_
      exact W.widen (k := cells + 430) (n := slots + 97000) (by omega) (by omega) (kk _ _ _ ⟨_, _, _, _, _, _, _, _, _, hM, hW.cgF rfl rfl rfl rfl rfl, hO, rfl, hR.F rfl rfl rfl, hNM, FB.up (hF.up (Nat.zero_le _)) (by show 1 ≤ 2; omega), hG, hXB⟩ hS (lv_sub hl [2, 3, 4, 5, 6] rfl))
    · skip
      exfalso; omega

set_option maxHeartbeats 4000000 in
set_option maxRecDepth 100000 in
theorem lc_load {p : Program} {l : Launch} {e : Env} {s : State} {m : MethodId} {below : List Frame} {meth : Method} {c : Code} {b L : Nat} {ys : Nat → Int} {D : va_G} {cA : Nat → ClassId} {sa : Nat → Nat} {o xo oa : Nat} {ad : Nat → Nat} (hls : l.stackTraces = false) (hC : LX p s m c b L ys D cA sa o oa ad) {H : Heap} {locs : List Loc} {ls : Array Slot} {cells slots i : Nat} (hi : i + 7 ≤ L) (hLI : LI D cA sa s.heap.size o xo oa ad H) (hS : va_S (nw s) s.heap H locs) (hl : lv_has ls 7 [(4, .int (iI ((i : Nat)))), (3, .ref oa), (2, .ref o), (1, .ref xo), (0, .ref b)]) (hc : cells + 430 ≤ 601024) (hs : slots + 97000 ≤ 7293034) (kk : ∀ (H1 : Heap) (locs1 : List Loc) (ls1 : Array Slot), LI D cA sa s.heap.size o xo oa ad H1 → va_S (nw s) s.heap H1 locs1 → lv_has ls1 7 [(4, .int (iI ((i : Nat)))), (3, .ref oa), (2, .ref o), (1, .ref xo), (0, .ref b)] → W p l e room_1 s m #[Value.ref b] below meth c H1 locs1 (cells + 430) (slots + 97000) (lw_Z below #[Value.ref b] s) (F0 m 1014 ls1 [])) : W p l e room_1 s m #[Value.ref b] below meth c H locs cells slots (lw_Z below #[Value.ref b] s) (F0 m 685 ls []) := by
  obtain ⟨hx, hb, hml, hown, hts, hK, hSX, hTX, hNc, hX, hbl, hy, hL, hoM, hon, hMn⟩ := hC
  obtain ⟨F, G, M, X, C, Z, E, adC, g, hM, hW, hO, rfl, hR, hNM, hF, hG, hXB⟩ := hLI
  have hNC := hR.1.1.2.1
  have hwf := hR.1.1.1
  have hZ := hR.1.ZB
  have hbA : ¬ nw s b := fun h => by unfold nw at h; omega
  have hF1 : F 1 ≤ 1439 := hF 1
  have hF2 : F 2 ≤ 10 := hF 2
  have hF3 : F 3 ≤ 16 := hF 3
  have hF4 : F 4 ≤ 60 := hF 4
  have hF5 : F 5 ≤ 40 := hF 5
  refine lv_aload_n hx hb dL_law_685 rfl (lv_at hl 3 rfl) ?_
  refine lv_aload_n hx hb dL_law_686 rfl (lv_at hl 4 rfl) ?_
  refine lv_iload hx hb dL_law_687 (lv_at hl 0 rfl) ?_
  refine lv_iconst (v := iI (1)) hx hb dL_law_689 rfl ?_
  refine ri_iadd hx hb dL_law_690 ?_
  refine h_sld hx hb hX hbl hbA hS (i + 1) (by omega) (by omega) hL dL_law_691 ?_
  refine lv_aload_n hx hb dL_law_692 rfl (lv_at hl 4 rfl) ?_
  refine lv_iload hx hb dL_law_693 (lv_at hl 0 rfl) ?_
  refine lv_iconst (v := iI (2)) hx hb dL_law_695 rfl ?_
  refine ri_iadd hx hb dL_law_696 ?_
  refine h_sld hx hb hX hbl hbA hS (i + 2) (by omega) (by omega) hL dL_law_697 ?_
  refine lv_aload_n hx hb dL_law_698 rfl (lv_at hl 1 rfl) ?_
  by_cases hgd : 0 ≤ ys (i + 1) ∧ ys (i + 1) < F 3
  · skip
    obtain ⟨v, h_v⟩ := Int.eq_ofNat_of_zero_le (show 0 ≤ ys (i + 1) by omega)
    by_cases hgd2 : 0 ≤ ys (i + 2) ∧ ys (i + 2) + 1 < C 8 v
    · skip
      obtain ⟨w, h_w⟩ := Int.eq_ofNat_of_zero_le (show 0 ≤ ys (i + 2) by omega)
      rw [h_v, h_w]
      refine rc_I (W.runSW (n := 4) (As := [.ref (adC 0 0), .int (iI ((v : Nat))), .int (iI ((w : Nat))), .ref oa]) (rest := []) ⟨hx, hb, hml, hown, hts⟩ (hh_load l D cA (ACs s.heap.size o oa ad) sa adC F C Z E 360 (by decide) hF hNC hZ hwf oa g acs_oa v w (by omega) (by omega)) (lw_SW q911 q912 q41 q913) rfl rfl (by decide +kernel) ⟨Nat.le_of_ble_eq_true rfl, Nat.le_of_ble_eq_true rfl⟩ (lpH hK hSX hTX hS hW hO) rfl rfl hl.1 rfl (lv_room (Nat.le_of_ble_eq_true rfl)) dL_law_699 ⟨by show cells + 0 ≤ 601024; omega, by show slots + 0 ≤ 7293034; omega⟩) hS (fun q _ h => ao_nw hon h) (fun q h => ao_nw hon h) (fun z H1 locs1 hp hS hz hq => ?_)
      have hM := keepM hM hoM hq
      obtain ⟨rfl, hW, hO⟩ := hp
      refine lv_istore (lv' := [(5, .int (iI (0))), (4, .int (iI ((i : Nat)))), (3, .ref oa), (2, .ref o), (1, .ref (adC 0 0)), (0, .ref b)]) hx hb dL_law_702 hl (by decide) rfl (fun ls hl => ?_)
      refine lv_aload_n hx hb dL_law_704 rfl (lv_at hl 3 rfl) ?_
      refine lv_aload_n hx hb dL_law_705 rfl (lv_at hl 5 rfl) ?_
      refine lv_iload hx hb dL_law_706 (lv_at hl 1 rfl) ?_
      refine lv_iconst (v := iI (1)) hx hb dL_law_708 rfl ?_
      refine ri_iadd hx hb dL_law_709 ?_
      refine h_sld hx hb hX hbl hbA hS (i + 1) (by omega) (by omega) hL dL_law_710 ?_
      refine lv_aload_n hx hb dL_law_711 rfl (lv_at hl 5 rfl) ?_
      refine lv_iload hx hb dL_law_712 (lv_at hl 1 rfl) ?_
      refine lv_iconst (v := iI (2)) hx hb dL_law_714 rfl ?_
      refine ri_iadd hx hb dL_law_715 ?_
      refine h_sld hx hb hX hbl hbA hS (i + 2) (by omega) (by omega) hL dL_law_716 ?_
      rw [h_v, h_w]
      refine rc_I (W.runV (As := [.int (iI ((v : Nat))), .int (iI ((w : Nat)))]) (rest := []) ⟨hx, hb, hml, hown, hts⟩ (mm_load l D cA (AMs o ad) o ad F G M X Z 360 (by decide) hF hG hNM hXB hZ v w (by omega) (by rw [(hR.2.2.1 8 (by decide) (by decide) (by decide))]; omega)) (cwV 2 hts (lw_V q1230 q1231 q1232 q62 q1233) rfl rfl rfl (by decide +kernel) ⟨Nat.le_of_ble_eq_true rfl, Nat.le_of_ble_eq_true rfl⟩) (lpM hK hM) rfl rfl hl.1 rfl (lv_room (Nat.le_of_ble_eq_true rfl)) dL_law_717 ⟨by show cells + 0 + 0 ≤ 601024; omega, by show slots + 0 + 0 ≤ 7293034; omega⟩) hS (fun q _ h => hMn q h) (fun q h => hMn q h) (fun z H1 locs1 hp hS hz hq => ?_)
      have hW := keepC hW hF hNC hz hq
      have hO := hO.kept (hq _ hO.lt hoM)
      obtain ⟨rfl, hM⟩ := hp
      refine ri_top (b := Z (10 * v + w)) (rfl) ?_
      refine lv_istore (lv' := [(6, .int (iI (Z (10 * v + w)))), (5, .int (iI (0))), (4, .int (iI ((i : Nat)))), (3, .ref oa), (2, .ref o), (1, .ref (adC 0 0)), (0, .ref b)]) hx hb dL_law_720 hl (by decide) rfl (fun ls hl => ?_)
      refine lv_aload_n hx hb dL_law_722 rfl (lv_at hl 4 rfl) ?_
      refine rc_V (W.runV (As := []) (rest := []) ⟨hx, hb, hml, hown, hts⟩ (mm_thrown l D cA (AMs o ad) o ad _ _ _ _ _ 360 (by decide) (hF.up (Nat.zero_le _)) hG (hNM) hXB (hZ)) (cwV 0 hts (lw_V q1090 q1091 q1092 q62 q1093) rfl rfl rfl (by decide +kernel) ⟨Nat.le_of_ble_eq_true rfl, Nat.le_of_ble_eq_true rfl⟩) (lpM hK hM) rfl rfl hl.1 rfl (lv_room (Nat.le_of_ble_eq_true rfl)) dL_law_723 ⟨by show cells + 0 + 0 + 0 ≤ 601024; omega, by show slots + 0 + 0 + 0 ≤ 7293034; omega⟩) ?_
      refine W.eq (g2 := F0 m 726 ls [.int (iI (0))]) rfl ?_
      refine lv_iload hx hb dL_law_726 (lv_at hl 1 rfl) ?_
      refine i_same (tgt := 733) hx hb dL_law_728 (by decide) ?_
      refine lv_iload hx hb dL_law_733 (lv_at hl 1 rfl) ?_
      refine ri_if_ne (tgt := 750) hx hb (by unfold inR; omega) dL_law_735 (by decide) (fun h1 => ?_) (fun h1 => ?_)
      · skip
        exfalso; omega
      · skip
        refine lv_aload_n hx hb dL_law_738 rfl (lv_at hl 3 rfl) ?_
        refine lv_iconst (v := iI (0)) hx hb dL_law_739 rfl ?_
        refine h_lald hx hb hK hO 0 rfl (by omega) (by decide) dL_law_740 ?_
        refine W.eq (g2 := F0 m 741 ls [.long ((iI (Z (10 * v + w))).toInt64)]) rfl ?_
        refine lv_iload hx hb dL_law_741 (lv_at hl 0 rfl) ?_
        refine lv_i2l hx hb dL_law_743 rfl ?_
        refine l_same hx hb dL_law_744 ?_
        refine ri_if_eq (tgt := 750) hx hb (by unfold inR; omega) dL_law_745 (by decide) (fun h2 => ?_) (fun h2 => ?_)
        · skip
          refine lv_goto (tgt := 1014) hx hb dL_law_750 (by decide) ?_
          exact W.widen (k := cells + 430) (n := slots + 97000) (by omega) (by omega) (kk _ _ _ ⟨_, _, _, _, _, _, _, _, _, hM, hW.cgF rfl rfl rfl rfl rfl, hO, rfl, hR.F rfl rfl rfl, hNM, hF.up (Nat.zero_le _), hG, hXB⟩ hS (lv_sub hl [2, 3, 4, 5, 6] rfl))
        · skip
          exfalso; omega
    · skip
      rw [h_v]
      refine rc_I (W.runSW (n := 4) (As := [.ref (adC 0 0), .int (iI ((v : Nat))), .int (iI (ys (i + 2))), .ref oa]) (rest := []) ⟨hx, hb, hml, hown, hts⟩ (hh_load_u l hls D cA (ACs s.heap.size o oa ad) sa adC F C Z E 360 (by decide) hF hNC hZ hwf oa g acs_oa v (ys (i + 2)) (by omega) (hy _) hgd2) (lw_SW q911 q912 q41 q913) rfl rfl (by decide +kernel) ⟨Nat.le_of_ble_eq_true rfl, Nat.le_of_ble_eq_true rfl⟩ (lpH hK hSX hTX hS hW hO) rfl rfl hl.1 rfl (lv_room (Nat.le_of_ble_eq_true rfl)) dL_law_699 ⟨by show cells + 1 ≤ 601024; omega, by show slots + 6 ≤ 7293034; omega⟩) hS (fun q _ h => ao_nw hon h) (fun q h => ao_nw hon h) (fun z H1 locs1 hp hS hz hq => ?_)
      have hM := keepM hM hoM hq
      obtain ⟨rfl, hW, hO⟩ := hp
      refine lv_istore (lv' := [(5, .int (iI (1))), (4, .int (iI ((i : Nat)))), (3, .ref oa), (2, .ref o), (1, .ref (adC 0 0)), (0, .ref b)]) hx hb dL_law_702 hl (by decide) rfl (fun ls hl => ?_)
      refine lv_aload_n hx hb dL_law_704 rfl (lv_at hl 3 rfl) ?_
      refine lv_aload_n hx hb dL_law_705 rfl (lv_at hl 5 rfl) ?_
      refine lv_iload hx hb dL_law_706 (lv_at hl 1 rfl) ?_
      refine lv_iconst (v := iI (1)) hx hb dL_law_708 rfl ?_
      refine ri_iadd hx hb dL_law_709 ?_
      refine h_sld hx hb hX hbl hbA hS (i + 1) (by omega) (by omega) hL dL_law_710 ?_
      refine lv_aload_n hx hb dL_law_711 rfl (lv_at hl 5 rfl) ?_
      refine lv_iload hx hb dL_law_712 (lv_at hl 1 rfl) ?_
      refine lv_iconst (v := iI (2)) hx hb dL_law_714 rfl ?_
      refine ri_iadd hx hb dL_law_715 ?_
      refine h_sld hx hb hX hbl hbA hS (i + 2) (by omega) (by omega) hL dL_law_716 ?_
      refine rc_I (W.runV (As := [.int (iI (ys (i + 1))), .int (iI (ys (i + 2)))]) (rest := []) ⟨hx, hb, hml, hown, hts⟩ (mm_load_x l D cA (AMs o ad) o ad F G M X Z 360 (by decide) hF hG hNM hXB hZ (ys (i + 1)) (ys (i + 2)) (hy _) (hy _) (fun ⟨a, w, h1, h2, h3, h4⟩ => by rw [(hR.2.2.1 8 (by decide) (by decide) (by decide))] at h4; have e : a = v := (by omega); rw [e] at h4; exact hgd2 (by omega))) (cwV 2 hts (lw_V q1230 q1231 q1232 q62 q1233) rfl rfl rfl (by decide +kernel) ⟨Nat.le_of_ble_eq_true rfl, Nat.le_of_ble_eq_true rfl⟩) (lpM hK hM) rfl rfl hl.1 rfl (lv_room (Nat.le_of_ble_eq_true rfl)) dL_law_717 ⟨by show cells + 1 + 0 ≤ 601024; omega, by show slots + 6 + 0 ≤ 7293034; omega⟩) hS (fun q _ h => hMn q h) (fun q h => hMn q h) (fun z H1 locs1 hp hS hz hq => ?_)
      have hW := keepC hW hF hNC hz hq
      have hO := hO.kept (hq _ hO.lt hoM)
      have hM := hp
      refine lv_istore (lv' := [(6, .int (iI (z))), (5, .int (iI (1))), (4, .int (iI ((i : Nat)))), (3, .ref oa), (2, .ref o), (1, .ref (adC 0 0)), (0, .ref b)]) hx hb dL_law_720 hl (by decide) rfl (fun ls hl => ?_)
      refine lv_aload_n hx hb dL_law_722 rfl (lv_at hl 4 rfl) ?_
      refine rc_V (W.runV (As := []) (rest := []) ⟨hx, hb, hml, hown, hts⟩ (mm_thrown l D cA (AMs o ad) o ad _ _ _ _ _ 360 (by decide) (FB.up (hF.up (Nat.zero_le _)) (by show 1 ≤ 2; omega)) hG (hNM) hXB (hZ)) (cwV 0 hts (lw_V q1090 q1091 q1092 q62 q1093) rfl rfl rfl (by decide +kernel) ⟨Nat.le_of_ble_eq_true rfl, Nat.le_of_ble_eq_true rfl⟩) (lpM hK hM) rfl rfl hl.1 rfl (lv_room (Nat.le_of_ble_eq_true rfl)) dL_law_723 ⟨by show cells + 1 + 0 + 0 ≤ 601024; omega, by show slots + 6 + 0 + 0 ≤ 7293034; omega⟩) ?_
      refine W.eq (g2 := F0 m 726 ls [.int (iI (1))]) rfl ?_
      refine lv_iload hx hb dL_law_726 (lv_at hl 1 rfl) ?_
      refine i_same (tgt := 733) hx hb dL_law_728 (by decide) ?_
      refine lv_iload hx hb dL_law_733 (lv_at hl 1 rfl) ?_
      refine ri_if_ne (tgt := 750) hx hb (by unfold inR; omega) dL_law_735 (by decide) (fun h3 => ?_) (fun h3 => ?_)
      · skip
        refine lv_goto (tgt := 1014) hx hb dL_law_750 (by decide) ?_
        exact W.widen (k := cells + 430) (n := slots + 97000) (by omega) (by omega) (kk _ _ _ ⟨_, _, _, _, _, _, _, _, _, hM, hW.cgF rfl rfl rfl rfl rfl, hO, rfl, hR.F rfl rfl rfl, hNM, FB.up (hF.up (Nat.zero_le _)) (by show 1 ≤ 2; omega), hG, hXB⟩ hS (lv_sub hl [2, 3, 4, 5, 6] rfl))
      · skip
        exfalso; omega
  · skip
    refine rc_I (W.runSW (n := 4) (As := [.ref (adC 0 0), .int (iI (ys (i + 1))), .int (iI (ys (i + 2))), .ref oa]) (rest := []) ⟨hx, hb, hml, hown, hts⟩ (hh_load_t l hls D cA (ACs s.heap.size o oa ad) sa adC F C Z E 360 (by decide) hF hNC hZ hwf oa g acs_oa (ys (i + 1)) (ys (i + 2)) (hy _) hgd) (lw_SW q911 q912 q41 q913) rfl rfl (by decide +kernel) ⟨Nat.le_of_ble_eq_true rfl, Nat.le_of_ble_eq_true rfl⟩ (lpH hK hSX hTX hS hW hO) rfl rfl hl.1 rfl (lv_room (Nat.le_of_ble_eq_true rfl)) dL_law_699 ⟨by show cells + 1 ≤ 601024; omega, by show slots + 6 ≤ 7293034; omega⟩) hS (fun q _ h => ao_nw hon h) (fun q h => ao_nw hon h) (fun z H1 locs1 hp hS hz hq => ?_)
    have hM := keepM hM hoM hq
    obtain ⟨rfl, hW, hO⟩ := hp
    refine lv_istore (lv' := [(5, .int (iI (1))), (4, .int (iI ((i : Nat)))), (3, .ref oa), (2, .ref o), (1, .ref (adC 0 0)), (0, .ref b)]) hx hb dL_law_702 hl (by decide) rfl (fun ls hl => ?_)
    refine lv_aload_n hx hb dL_law_704 rfl (lv_at hl 3 rfl) ?_
    refine lv_aload_n hx hb dL_law_705 rfl (lv_at hl 5 rfl) ?_
    refine lv_iload hx hb dL_law_706 (lv_at hl 1 rfl) ?_
    refine lv_iconst (v := iI (1)) hx hb dL_law_708 rfl ?_
    refine ri_iadd hx hb dL_law_709 ?_
    refine h_sld hx hb hX hbl hbA hS (i + 1) (by omega) (by omega) hL dL_law_710 ?_
    refine lv_aload_n hx hb dL_law_711 rfl (lv_at hl 5 rfl) ?_
    refine lv_iload hx hb dL_law_712 (lv_at hl 1 rfl) ?_
    refine lv_iconst (v := iI (2)) hx hb dL_law_714 rfl ?_
    refine ri_iadd hx hb dL_law_715 ?_
    refine h_sld hx hb hX hbl hbA hS (i + 2) (by omega) (by omega) hL dL_law_716 ?_
    refine rc_I (W.runV (As := [.int (iI (ys (i + 1))), .int (iI (ys (i + 2)))]) (rest := []) ⟨hx, hb, hml, hown, hts⟩ (mm_load_x l D cA (AMs o ad) o ad F G M X Z 360 (by decide) hF hG hNM hXB hZ (ys (i + 1)) (ys (i + 2)) (hy _) (hy _) (fun ⟨a, w, h1, h2, h3, h4⟩ => hgd (by omega))) (cwV 2 hts (lw_V q1230 q1231 q1232 q62 q1233) rfl rfl rfl (by decide +kernel) ⟨Nat.le_of_ble_eq_true rfl, Nat.le_of_ble_eq_true rfl⟩) (lpM hK hM) rfl rfl hl.1 rfl (lv_room (Nat.le_of_ble_eq_true rfl)) dL_law_717 ⟨by show cells + 1 + 0 ≤ 601024; omega, by show slots + 6 + 0 ≤ 7293034; omega⟩) hS (fun q _ h => hMn q h) (fun q h => hMn q h) (fun z H1 locs1 hp hS hz hq => ?_)
    have hW := keepC hW hF hNC hz hq
    have hO := hO.kept (hq _ hO.lt hoM)
    have hM := hp
    refine lv_istore (lv' := [(6, .int (iI (z))), (5, .int (iI (1))), (4, .int (iI ((i : Nat)))), (3, .ref oa), (2, .ref o), (1, .ref (adC 0 0)), (0, .ref b)]) hx hb dL_law_720 hl (by decide) rfl (fun ls hl => ?_)
    refine lv_aload_n hx hb dL_law_722 rfl (lv_at hl 4 rfl) ?_
    refine rc_V (W.runV (As := []) (rest := []) ⟨hx, hb, hml, hown, hts⟩ (mm_thrown l D cA (AMs o ad) o ad _ _ _ _ _ 360 (by decide) (FB.up (hF.up (Nat.zero_le _)) (by show 1 ≤ 2; omega)) hG (hNM) hXB (hZ)) (cwV 0 hts (lw_V q1090 q1091 q1092 q62 q1093) rfl rfl rfl (by decide +kernel) ⟨Nat.le_of_ble_eq_true rfl, Nat.le_of_ble_eq_true rfl⟩) (lpM hK hM) rfl rfl hl.1 rfl (lv_room (Nat.le_of_ble_eq_true rfl)) dL_law_723 ⟨by show cells + 1 + 0 + 0 ≤ 601024; omega, by show slots + 6 + 0 + 0 ≤ 7293034; omega⟩) ?_
    refine W.eq (g2 := F0 m 726 ls [.int (iI (1))]) rfl ?_
    refine lv_iload hx hb dL_law_726 (lv_at hl 1 rfl) ?_
    refine i_same (tgt := 733) hx hb dL_law_728 (by decide) ?_
    refine lv_iload hx hb dL_law_733 (lv_at hl 1 rfl) ?_
    refine ri_if_ne (tgt := 750) hx hb (by unfold inR; omega) dL_law_735 (by decide) (fun h4 => ?_) (fun h4 => ?_)
    · skip
      refine lv_goto (tgt := 1014) hx hb dL_law_750 (by decide) ?_
      exact W.widen (k := cells + 430) (n := slots + 97000) (by omega) (by omega) (kk _ _ _ ⟨_, _, _, _, _, _, _, _, _, hM, hW.cgF rfl rfl rfl rfl rfl, hO, rfl, hR.F rfl rfl rfl, hNM, FB.up (hF.up (Nat.zero_le _)) (by show 1 ≤ 2; omega), hG, hXB⟩ hS (lv_sub hl [2, 3, 4, 5, 6] rfl))
    · skip
      exfalso; omega
