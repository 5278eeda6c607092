set_option maxRecDepth 100000
set_option maxHeartbeats 4000000 in
set_option maxRecDepth 100000 in
theorem lc_station {p : Program} {l : Launch} {e : Env} {s : State} {m : MethodId} {below : List Frame} {meth : Method} {c : Code} {b L : Nat} {ys : Nat → Int} {D : va_G} {cA : Nat → ClassId} {sa : Nat → Nat} {o xo oa : Nat} {ad : Nat → Nat} (hls : l.stackTraces = false) (hC : LX p s m c b L ys D cA sa o oa ad) {H : Heap} {locs : List Loc} {ls : Array Slot} {cells slots i : Nat} (hi : i + 7 ≤ L) (hLI : LI D cA sa s.heap.size o xo oa ad H) (hS : va_S (nw s) s.heap H locs) (hl : lv_has ls 7 [(4, .int (iI ((i : Nat)))), (3, .ref oa), (2, .ref o), (1, .ref xo), (0, .ref b)]) (hc : cells + 430 ≤ 601024) (hs : slots + 97000 ≤ 7293034) (kk : ∀ (H1 : Heap) (locs1 : List Loc) (ls1 : Array Slot), LI D cA sa s.heap.size o xo oa ad H1 → va_S (nw s) s.heap H1 locs1 → lv_has ls1 7 [(4, .int (iI ((i : Nat)))), (3, .ref oa), (2, .ref o), (1, .ref xo), (0, .ref b)] → W p l e room_1 s m #[Value.ref b] below meth c H1 locs1 (cells + 430) (slots + 97000) (lw_Z below #[Value.ref b] s) (F0 m 1014 ls1 [])) : W p l e room_1 s m #[Value.ref b] below meth c H locs cells slots (lw_Z below #[Value.ref b] s) (F0 m 120 ls []) := by
  obtain ⟨hx, hb, hml, hown, hts, hK, hSX, hTX, hNc, hX, hbl, hy, hL, hoM, hon, hMn⟩ := hC
  obtain ⟨F, G, M, X, C, Z, E, adC, g, hM, hW, hO, rfl, hR, hNM, hF, hG, hXB⟩ := hLI
  have hNC := hR.1.1.2.1
  have hwf := hR.1.1.1
  have hZ := hR.1.ZB
  have hbA : ¬ nw s b := fun h => by unfold nw at h; omega
  have hF1 : F 1 ≤ 1439 := hF 1
  have hF2 : F 2 ≤ 10 := hF 2
  have hF3 : F 3 ≤ 16 := hF 3
  have hF4 : F 4 ≤ 60 := hF 4
  have hF5 : F 5 ≤ 40 := hF 5
  refine lv_aload_n hx hb dL_law_120 rfl (lv_at hl 3 rfl) ?_
  refine lv_aload_n hx hb dL_law_121 rfl (lv_at hl 4 rfl) ?_
  refine lv_iload hx hb dL_law_122 (lv_at hl 0 rfl) ?_
  refine lv_iconst (v := iI (1)) hx hb dL_law_124 rfl ?_
  refine ri_iadd hx hb dL_law_125 ?_
  refine h_sld hx hb hX hbl hbA hS (i + 1) (by omega) (by omega) hL dL_law_126 ?_
  by_cases hgd : F 2 ≠ 10 ∧ 0 ≤ ys (i + 1) ∧ ys (i + 1) ≤ 60
  · skip
    obtain ⟨v, hv⟩ := Int.eq_ofNat_of_zero_le (show 0 ≤ ys (i + 1) by omega)
    refine ri_top (b := ((v : Nat) : Int)) (by omega) ?_
    refine rc_I (W.runV (As := [.int (iI ((v : Nat)))]) (rest := []) ⟨hx, hb, hml, hown, hts⟩ (cc_X1_station l D cA (ACs s.heap.size o oa ad) sa adC F C Z E 360 (by decide) hF hNC hZ hwf v (by omega) (by omega)) (cwV 1 hts (lw_V q444 q445 q446 q42 q447) rfl rfl rfl (by decide +kernel) ⟨Nat.le_of_ble_eq_true rfl, Nat.le_of_ble_eq_true rfl⟩) (lpC hK hSX hS hW) rfl rfl hl.1 rfl (lv_room (Nat.le_of_ble_eq_true rfl)) dL_law_127 ⟨by show cells + 2 ≤ 601024; omega, by show slots + 402 ≤ 7293034; omega⟩) hS (fun q _ h => h.1) (fun q h => h.1) (fun z H1 locs1 hp hS hz hq => ?_)
    have hM := keepM hM hoM (fun q h1 h2 => hq q h1 (fun z => h2 (Or.inl z)))
    have hO := hO.kept (hq _ hO.lt acs_oa)
    obtain ⟨rfl, ad2, hadq, hW⟩ := hp
    refine lv_aload_n hx hb dL_law_130 rfl (lv_at hl 2 rfl) ?_
    refine lv_aload_n hx hb dL_law_131 rfl (lv_at hl 4 rfl) ?_
    refine lv_iload hx hb dL_law_132 (lv_at hl 0 rfl) ?_
    refine lv_iconst (v := iI (1)) hx hb dL_law_134 rfl ?_
    refine ri_iadd hx hb dL_law_135 ?_
    refine h_sld hx hb hX hbl hbA hS (i + 1) (by omega) (by omega) hL dL_law_136 ?_
    have hFb : FB (va_up F 2 (F 2 + 1)) := hF.up (by show F 2 + 1 ≤ 10; omega)
    have hNb : NB (up2 C 6 (F 2) v) := hNC.up (by show v ≤ 60; omega)
    have hop : opStation (va_up F 0 0) M (ys (i + 1)) = (((F 2 : Nat) : Int), va_up (va_up F 0 0) 2 (F 2 + 1), up2 M 6 (F 2) v) := by rw [hv]; exact if_neg (by show ¬ (F 2 = 10 ∨ _ ∨ _); omega)
    refine rc_I (W.runV (As := [.int (iI (ys (i + 1)))]) (rest := [.int (iI ((F 2 : Nat)))]) ⟨hx, hb, hml, hown, hts⟩ (mm_station l D cA (AMs o ad) o ad F G M X Z 360 (by decide) hF hG hNM hXB hZ (ys (i + 1)) (hy _)) (cwV 1 hts (lw_V q1094 q1095 q1096 q62 q1097) rfl rfl rfl (by decide +kernel) ⟨Nat.le_of_ble_eq_true rfl, Nat.le_of_ble_eq_true rfl⟩) (lpM hK hM) rfl rfl hl.1 rfl (lv_room (Nat.le_of_ble_eq_true rfl)) dL_law_137 ⟨by show cells + 2 + 0 ≤ 601024; omega, by show slots + 402 + 0 ≤ 7293034; omega⟩) hS (fun q _ h => hMn q h) (fun q h => hMn q h) (fun z H1 locs1 hp hS hz hq => ?_)
    have hW := keepC hW hFb hNb hz hq
    have hO := hO.kept (hq _ hO.lt hoM)
    rw [hop] at hp
    obtain ⟨rfl, hM⟩ := hp
    refine i_same (tgt := 1014) hx hb dL_law_140 (by decide) ?_
    exact W.widen (k := cells + 430) (n := slots + 97000) (by omega) (by omega) (kk _ _ _ ⟨_, _, _, _, _, _, _, _, _, hM, hW.cgF rfl rfl rfl rfl rfl, hO, hadq, (op_station hR hF (show v ≤ 60 by omega)).F rfl rfl rfl, hNM.up (by show v ≤ 60; omega), FB.up (hF.up (Nat.zero_le _)) (by show F 2 + 1 ≤ 10; omega), hG, hXB⟩ hS (lv_sub hl [0, 1, 2, 3, 4] rfl))
  · skip
    refine rc_V (W.runV (As := [.int (iI (ys (i + 1)))]) (rest := []) ⟨hx, hb, hml, hown, hts⟩ (cc_X1_station_x l D cA (ACs s.heap.size o oa ad) sa adC F C Z E 360 (by decide) hF hNC hZ hwf (ys (i + 1)) (hy _) hgd) (cwV 1 hts (lw_V q444 q445 q446 q42 q447) rfl rfl rfl (by decide +kernel) ⟨Nat.le_of_ble_eq_true rfl, Nat.le_of_ble_eq_true rfl⟩) (lpC hK hSX hS hW) rfl rfl hl.1 rfl (lv_room (Nat.le_of_ble_eq_true rfl)) dL_law_127 ⟨by show cells + 0 ≤ 601024; omega, by show slots + 0 ≤ 7293034; omega⟩) ?_
    refine lv_aload_n hx hb dL_law_130 rfl (lv_at hl 2 rfl) ?_
    refine lv_aload_n hx hb dL_law_131 rfl (lv_at hl 4 rfl) ?_
    refine lv_iload hx hb dL_law_132 (lv_at hl 0 rfl) ?_
    refine lv_iconst (v := iI (1)) hx hb dL_law_134 rfl ?_
    refine ri_iadd hx hb dL_law_135 ?_
    refine h_sld hx hb hX hbl hbA hS (i + 1) (by omega) (by omega) hL dL_law_136 ?_
    have hop : opStation (va_up F 0 0) M (ys (i + 1)) = (-1, va_up F 0 0, M) := if_pos (by show F 2 = 10 ∨ _ ∨ _; omega)
    refine rc_I (W.runV (As := [.int (iI (ys (i + 1)))]) (rest := [.int (iI (-1))]) ⟨hx, hb, hml, hown, hts⟩ (mm_station l D cA (AMs o ad) o ad F G M X Z 360 (by decide) hF hG hNM hXB hZ (ys (i + 1)) (hy _)) (cwV 1 hts (lw_V q1094 q1095 q1096 q62 q1097) rfl rfl rfl (by decide +kernel) ⟨Nat.le_of_ble_eq_true rfl, Nat.le_of_ble_eq_true rfl⟩) (lpM hK hM) rfl rfl hl.1 rfl (lv_room (Nat.le_of_ble_eq_true rfl)) dL_law_137 ⟨by show cells + 0 ≤ 601024; omega, by show slots + 0 ≤ 7293034; omega⟩) hS (fun q _ h => hMn q h) (fun q h => hMn q h) (fun z H1 locs1 hp hS hz hq => ?_)
    have hW := keepC hW hF hNC hz hq
    have hO := hO.kept (hq _ hO.lt hoM)
    rw [hop] at hp
    obtain ⟨rfl, hM⟩ := hp
    refine i_same (tgt := 1014) hx hb dL_law_140 (by decide) ?_
    exact W.widen (k := cells + 430) (n := slots + 97000) (by omega) (by omega) (kk _ _ _ ⟨_, _, _, _, _, _, _, _, _, hM, hW.cgF rfl rfl rfl rfl rfl, hO, rfl, hR.F rfl rfl rfl, hNM, hF.up (Nat.zero_le _), hG, hXB⟩ hS (lv_sub hl [0, 1, 2, 3, 4] rfl))

set_option maxHeartbeats 4000000 in
set_option maxRecDepth 100000 in
theorem lc_train {p : Program} {l : Launch} {e : Env} {s : State} {m : MethodId} {below : List Frame} {meth : Method} {c : Code} {b L : Nat} {ys : Nat → Int} {D : va_G} {cA : Nat → ClassId} {sa : Nat → Nat} {o xo oa : Nat} {ad : Nat → Nat} (hls : l.stackTraces = false) (hC : LX p s m c b L ys D cA sa o oa ad) {H : Heap} {locs : List Loc} {ls : Array Slot} {cells slots i : Nat} (hi : i + 7 ≤ L) (hLI : LI D cA sa s.heap.size o xo oa ad H) (hS : va_S (nw s) s.heap H locs) (hl : lv_has ls 7 [(4, .int (iI ((i : Nat)))), (3, .ref oa), (2, .ref o), (1, .ref xo), (0, .ref b)]) (hc : cells + 430 ≤ 601024) (hs : slots + 97000 ≤ 7293034) (kk : ∀ (H1 : Heap) (locs1 : List Loc) (ls1 : Array Slot), LI D cA sa s.heap.size o xo oa ad H1 → va_S (nw s) s.heap H1 locs1 → lv_has ls1 7 [(4, .int (iI ((i : Nat)))), (3, .ref oa), (2, .ref o), (1, .ref xo), (0, .ref b)] → W p l e room_1 s m #[Value.ref b] below meth c H1 locs1 (cells + 430) (slots + 97000) (lw_Z below #[Value.ref b] s) (F0 m 1014 ls1 [])) : W p l e room_1 s m #[Value.ref b] below meth c H locs cells slots (lw_Z below #[Value.ref b] s) (F0 m 145 ls []) := by
  obtain ⟨hx, hb, hml, hown, hts, hK, hSX, hTX, hNc, hX, hbl, hy, hL, hoM, hon, hMn⟩ := hC
  obtain ⟨F, G, M, X, C, Z, E, adC, g, hM, hW, hO, rfl, hR, hNM, hF, hG, hXB⟩ := hLI
  have hNC := hR.1.1.2.1
  have hwf := hR.1.1.1
  have hZ := hR.1.ZB
  have hbA : ¬ nw s b := fun h => by unfold nw at h; omega
  have hF1 : F 1 ≤ 1439 := hF 1
  have hF2 : F 2 ≤ 10 := hF 2
  have hF3 : F 3 ≤ 16 := hF 3
  have hF4 : F 4 ≤ 60 := hF 4
  have hF5 : F 5 ≤ 40 := hF 5
  refine lv_aload_n hx hb dL_law_145 rfl (lv_at hl 3 rfl) ?_
  refine lv_aload_n hx hb dL_law_146 rfl (lv_at hl 4 rfl) ?_
  refine lv_iload hx hb dL_law_147 (lv_at hl 0 rfl) ?_
  refine lv_iconst (v := iI (1)) hx hb dL_law_149 rfl ?_
  refine ri_iadd hx hb dL_law_150 ?_
  refine h_sld hx hb hX hbl hbA hS (i + 1) (by omega) (by omega) hL dL_law_151 ?_
  by_cases hgd : F 3 ≠ 16 ∧ 1 ≤ ys (i + 1) ∧ ys (i + 1) ≤ 40
  · skip
    obtain ⟨v, hv⟩ := Int.eq_ofNat_of_zero_le (show 0 ≤ ys (i + 1) by omega)
    have h58 := hR.1.1.2.2.2.2.1 (F 3) (Nat.le_refl _)
    have h23 := hR.2.1.1 (F 3) (Nat.le_refl _)
    refine ri_top (b := ((v : Nat) : Int)) (by omega) ?_
    refine rc_I (W.runV (As := [.int (iI ((v : Nat)))]) (rest := []) ⟨hx, hb, hml, hown, hts⟩ (cc_X1_train l D cA (ACs s.heap.size o oa ad) sa adC F C Z E 360 (by decide) hF hNC hZ hwf v (by omega) (by omega) (by omega) h58.1 h58.2 h23 (fun j _ => fresh_Z hR (Nat.le_refl _))) (cwV 1 hts (lw_V q515 q516 q517 q42 q518) rfl rfl rfl (by decide +kernel) ⟨Nat.le_of_ble_eq_true rfl, Nat.le_of_ble_eq_true rfl⟩) (lpC hK hSX hS hW) rfl rfl hl.1 rfl (lv_room (Nat.le_of_ble_eq_true rfl)) dL_law_152 ⟨by show cells + 5 ≤ 601024; omega, by show slots + 421 ≤ 7293034; omega⟩) hS (fun q _ h => h.1) (fun q h => h.1) (fun z H1 locs1 hp hS hz hq => ?_)
    have hM := keepM hM hoM (fun q h1 h2 => hq q h1 (fun z => h2 (Or.inl z)))
    have hO := hO.kept (hq _ hO.lt acs_oa)
    obtain ⟨rfl, ad2, hadq, hW⟩ := hp
    refine lv_aload_n hx hb dL_law_155 rfl (lv_at hl 2 rfl) ?_
    refine lv_aload_n hx hb dL_law_156 rfl (lv_at hl 4 rfl) ?_
    refine lv_iload hx hb dL_law_157 (lv_at hl 0 rfl) ?_
    refine lv_iconst (v := iI (1)) hx hb dL_law_159 rfl ?_
    refine ri_iadd hx hb dL_law_160 ?_
    refine h_sld hx hb hX hbl hbA hS (i + 1) (by omega) (by omega) hL dL_law_161 ?_
    have hFb : FB (va_up F 3 (F 3 + 1)) := hF.up (by show F 3 + 1 ≤ 16; omega)
    have hNb : NB (up2 C 7 (F 3) v) := hNC.up (by show v ≤ 40; omega)
    have hop : opTrain (va_up F 0 0) M (ys (i + 1)) = (((F 3 : Nat) : Int), va_up (va_up F 0 0) 3 (F 3 + 1), up2 M 7 (F 3) v) := by rw [hv]; exact if_neg (by show ¬ (F 3 = 16 ∨ _ ∨ _); omega)
    refine rc_I (W.runV (As := [.int (iI (ys (i + 1)))]) (rest := [.int (iI ((F 3 : Nat)))]) ⟨hx, hb, hml, hown, hts⟩ (mm_train l D cA (AMs o ad) o ad F G M X Z 360 (by decide) hF hG hNM hXB hZ (ys (i + 1)) (hy _)) (cwV 1 hts (lw_V q1098 q1099 q1100 q62 q1101) rfl rfl rfl (by decide +kernel) ⟨Nat.le_of_ble_eq_true rfl, Nat.le_of_ble_eq_true rfl⟩) (lpM hK hM) rfl rfl hl.1 rfl (lv_room (Nat.le_of_ble_eq_true rfl)) dL_law_162 ⟨by show cells + 5 + 0 ≤ 601024; omega, by show slots + 421 + 0 ≤ 7293034; omega⟩) hS (fun q _ h => hMn q h) (fun q h => hMn q h) (fun z H1 locs1 hp hS hz hq => ?_)
    have hW := keepC hW hFb hNb hz hq
    have hO := hO.kept (hq _ hO.lt hoM)
    rw [hop] at hp
    obtain ⟨rfl, hM⟩ := hp
    refine i_same (tgt := 1014) hx hb dL_law_165 (by decide) ?_
    exact W.widen (k := cells + 430) (n := slots + 97000) (by omega) (by omega) (kk _ _ _ ⟨_, _, _, _, _, _, _, _, _, hM, hW.cgF rfl rfl rfl rfl rfl, hO, hadq, (op_train hR hF (show v ≤ 40 by omega)).F rfl rfl rfl, hNM.up (by show v ≤ 40; omega), FB.up (hF.up (Nat.zero_le _)) (by show F 3 + 1 ≤ 16; omega), hG, hXB⟩ hS (lv_sub hl [0, 1, 2, 3, 4] rfl))
  · skip
    refine rc_V (W.runV (As := [.int (iI (ys (i + 1)))]) (rest := []) ⟨hx, hb, hml, hown, hts⟩ (cc_X1_train_x l D cA (ACs s.heap.size o oa ad) sa adC F C Z E 360 (by decide) hF hNC hZ hwf (ys (i + 1)) (hy _) hgd) (cwV 1 hts (lw_V q515 q516 q517 q42 q518) rfl rfl rfl (by decide +kernel) ⟨Nat.le_of_ble_eq_true rfl, Nat.le_of_ble_eq_true rfl⟩) (lpC hK hSX hS hW) rfl rfl hl.1 rfl (lv_room (Nat.le_of_ble_eq_true rfl)) dL_law_152 ⟨by show cells + 0 ≤ 601024; omega, by show slots + 0 ≤ 7293034; omega⟩) ?_
    refine lv_aload_n hx hb dL_law_155 rfl (lv_at hl 2 rfl) ?_
    refine lv_aload_n hx hb dL_law_156 rfl (lv_at hl 4 rfl) ?_
    refine lv_iload hx hb dL_law_157 (lv_at hl 0 rfl) ?_
    refine lv_iconst (v := iI (1)) hx hb dL_law_159 rfl ?_
    refine ri_iadd hx hb dL_law_160 ?_
    refine h_sld hx hb hX hbl hbA hS (i + 1) (by omega) (by omega) hL dL_law_161 ?_
    have hop : opTrain (va_up F 0 0) M (ys (i + 1)) = (-1, va_up F 0 0, M) := if_pos (by show F 3 = 16 ∨ _ ∨ _; omega)
    refine rc_I (W.runV (As := [.int (iI (ys (i + 1)))]) (rest := [.int (iI (-1))]) ⟨hx, hb, hml, hown, hts⟩ (mm_train l D cA (AMs o ad) o ad F G M X Z 360 (by decide) hF hG hNM hXB hZ (ys (i + 1)) (hy _)) (cwV 1 hts (lw_V q1098 q1099 q1100 q62 q1101) rfl rfl rfl (by decide +kernel) ⟨Nat.le_of_ble_eq_true rfl, Nat.le_of_ble_eq_true rfl⟩) (lpM hK hM) rfl rfl hl.1 rfl (lv_room (Nat.le_of_ble_eq_true rfl)) dL_law_162 ⟨by show cells + 0 ≤ 601024; omega, by show slots + 0 ≤ 7293034; omega⟩) hS (fun q _ h => hMn q h) (fun q h => hMn q h) (fun z H1 locs1 hp hS hz hq => ?_)
    have hW := keepC hW hF hNC hz hq
    have hO := hO.kept (hq _ hO.lt hoM)
    rw [hop] at hp
    obtain ⟨rfl, hM⟩ := hp
    refine i_same (tgt := 1014) hx hb dL_law_165 (by decide) ?_
    exact W.widen (k := cells + 430) (n := slots + 97000) (by omega) (by omega) (kk _ _ _ ⟨_, _, _, _, _, _, _, _, _, hM, hW.cgF rfl rfl rfl rfl rfl, hO, rfl, hR.F rfl rfl rfl, hNM, hF.up (Nat.zero_le _), hG, hXB⟩ hS (lv_sub hl [0, 1, 2, 3, 4] rfl))

set_option maxHeartbeats 4000000 in
set_option maxRecDepth 100000 in
theorem lc_carrier {p : Program} {l : Launch} {e : Env} {s : State} {m : MethodId} {below : List Frame} {meth : Method} {c : Code} {b L : Nat} {ys : Nat → Int} {D : va_G} {cA : Nat → ClassId} {sa : Nat → Nat} {o xo oa : Nat} {ad : Nat → Nat} (hls : l.stackTraces = false) (hC : LX p s m c b L ys D cA sa o oa ad) {H : Heap} {locs : List Loc} {ls : Array Slot} {cells slots i : Nat} (hi : i + 7 ≤ L) (hLI : LI D cA sa s.heap.size o xo oa ad H) (hS : va_S (nw s) s.heap H locs) (hl : lv_has ls 7 [(4, .int (iI ((i : Nat)))), (3, .ref oa), (2, .ref o), (1, .ref xo), (0, .ref b)]) (hc : cells + 430 ≤ 601024) (hs : slots + 97000 ≤ 7293034) (kk : ∀ (H1 : Heap) (locs1 : List Loc) (ls1 : Array Slot), LI D cA sa s.heap.size o xo oa ad H1 → va_S (nw s) s.heap H1 locs1 → lv_has ls1 7 [(4, .int (iI ((i : Nat)))), (3, .ref oa), (2, .ref o), (1, .ref xo), (0, .ref b)] → W p l e room_1 s m #[Value.ref b] below meth c H1 locs1 (cells + 430) (slots + 97000) (lw_Z below #[Value.ref b] s) (F0 m 1014 ls1 [])) : W p l e room_1 s m #[Value.ref b] below meth c H locs cells slots (lw_Z below #[Value.ref b] s) (F0 m 865 ls []) := by
  obtain ⟨hx, hb, hml, hown, hts, hK, hSX, hTX, hNc, hX, hbl, hy, hL, hoM, hon, hMn⟩ := hC
  obtain ⟨F, G, M, X, C, Z, E, adC, g, hM, hW, hO, rfl, hR, hNM, hF, hG, hXB⟩ := hLI
  have hNC := hR.1.1.2.1
  have hwf := hR.1.1.1
  have hZ := hR.1.ZB
  have hbA : ¬ nw s b := fun h => by unfold nw at h; omega
  have hF1 : F 1 ≤ 1439 := hF 1
  have hF2 : F 2 ≤ 10 := hF 2
  have hF3 : F 3 ≤ 16 := hF 3
  have hF4 : F 4 ≤ 60 := hF 4
  have hF5 : F 5 ≤ 40 := hF 5
  refine lv_aload_n hx hb dL_law_865 rfl (lv_at hl 3 rfl) ?_
  refine lv_aload_n hx hb dL_law_866 rfl (lv_at hl 4 rfl) ?_
  refine lv_iload hx hb dL_law_867 (lv_at hl 0 rfl) ?_
  refine lv_iconst (v := iI (1)) hx hb dL_law_869 rfl ?_
  refine ri_iadd hx hb dL_law_870 ?_
  refine h_sld hx hb hX hbl hbA hS (i + 1) (by omega) (by omega) hL dL_law_871 ?_
  by_cases hgd : F 5 ≠ 40 ∧ 0 ≤ ys (i + 1) ∧ ys (i + 1) ≤ 31
  · skip
    obtain ⟨v, hv⟩ := Int.eq_ofNat_of_zero_le (show 0 ≤ ys (i + 1) by omega)
    refine ri_top (b := ((v : Nat) : Int)) (by omega) ?_
    refine rc_I (W.runV (As := [.int (iI ((v : Nat)))]) (rest := []) ⟨hx, hb, hml, hown, hts⟩ (cc_X1_carrier l D cA (ACs s.heap.size o oa ad) sa adC F C Z E 360 (by decide) hF hNC hZ hwf v H.size (by omega) (by omega)) (cwV 1 hts (lw_V q743 q744 q745 q42 q746) rfl rfl rfl (by decide +kernel) ⟨Nat.le_of_ble_eq_true rfl, Nat.le_of_ble_eq_true rfl⟩) (lpS hK hSX hS hW) rfl rfl hl.1 rfl (lv_room (Nat.le_of_ble_eq_true rfl)) dL_law_872 ⟨by show cells + 1 ≤ 601024; omega, by show slots + 400 ≤ 7293034; omega⟩) hS (fun q _ h => h.1) (fun q h => h.1) (fun z H1 locs1 hp hS hz hq => ?_)
    have hM := keepM hM hoM (fun q h1 h2 => hq q h1 (fun z => h2 (Or.inl z)))
    have hO := hO.kept (hq _ hO.lt acs_oa)
    obtain ⟨rfl, ad2, hadq, hW⟩ := hp
    refine lv_aload_n hx hb dL_law_875 rfl (lv_at hl 2 rfl) ?_
    refine lv_aload_n hx hb dL_law_876 rfl (lv_at hl 4 rfl) ?_
    refine lv_iload hx hb dL_law_877 (lv_at hl 0 rfl) ?_
    refine lv_iconst (v := iI (1)) hx hb dL_law_879 rfl ?_
    refine ri_iadd hx hb dL_law_880 ?_
    refine h_sld hx hb hX hbl hbA hS (i + 1) (by omega) (by omega) hL dL_law_881 ?_
    have hFb : FB (va_up F 5 (F 5 + 1)) := hF.up (by show F 5 + 1 ≤ 40; omega)
    have hNb : NB (up2 C 12 (F 5) v) := hNC.up (by show v ≤ 31; omega)
    have hop : opCarrier (va_up F 0 0) M (ys (i + 1)) = (((F 5 : Nat) : Int), va_up (va_up F 0 0) 5 (F 5 + 1), up2 M 12 (F 5) v) := by rw [hv]; exact if_neg (by show ¬ (F 5 = 40 ∨ _ ∨ _); omega)
    refine rc_I (W.runV (As := [.int (iI (ys (i + 1)))]) (rest := [.int (iI ((F 5 : Nat)))]) ⟨hx, hb, hml, hown, hts⟩ (mm_carrier l D cA (AMs o ad) o ad F G M X Z 360 (by decide) hF hG hNM hXB hZ (ys (i + 1)) (hy _)) (cwV 1 hts (lw_V q1254 q1255 q1256 q62 q1257) rfl rfl rfl (by decide +kernel) ⟨Nat.le_of_ble_eq_true rfl, Nat.le_of_ble_eq_true rfl⟩) (lpM hK hM) rfl rfl hl.1 rfl (lv_room (Nat.le_of_ble_eq_true rfl)) dL_law_882 ⟨by show cells + 1 + 0 ≤ 601024; omega, by show slots + 400 + 0 ≤ 7293034; omega⟩) hS (fun q _ h => hMn q h) (fun q h => hMn q h) (fun z H1 locs1 hp hS hz hq => ?_)
    have hW := keepC hW hFb hNb hz hq
    have hO := hO.kept (hq _ hO.lt hoM)
    rw [hop] at hp
    obtain ⟨rfl, hM⟩ := hp
    refine i_same (tgt := 1014) hx hb dL_law_885 (by decide) ?_
    exact W.widen (k := cells + 430) (n := slots + 97000) (by omega) (by omega) (kk _ _ _ ⟨_, _, _, _, _, _, _, _, _, hM, hW.cgF rfl rfl rfl rfl rfl, hO, hadq, (op_carrier hR (show v ≤ 31 by omega)).F rfl rfl rfl, hNM.up (by show v ≤ 31; omega), FB.up (hF.up (Nat.zero_le _)) (by show F 5 + 1 ≤ 40; omega), hG, hXB⟩ hS (lv_sub hl [0, 1, 2, 3, 4] rfl))
  · skip
    refine rc_V (W.runV (As := [.int (iI (ys (i + 1)))]) (rest := []) ⟨hx, hb, hml, hown, hts⟩ (cc_X1_carrier_x l D cA (ACs s.heap.size o oa ad) sa adC F C Z E 360 (by decide) hF hNC hZ hwf (ys (i + 1)) (hy _) hgd) (cwV 1 hts (lw_V q743 q744 q745 q42 q746) rfl rfl rfl (by decide +kernel) ⟨Nat.le_of_ble_eq_true rfl, Nat.le_of_ble_eq_true rfl⟩) (lpC hK hSX hS hW) rfl rfl hl.1 rfl (lv_room (Nat.le_of_ble_eq_true rfl)) dL_law_872 ⟨by show cells + 0 ≤ 601024; omega, by show slots + 0 ≤ 7293034; omega⟩) ?_
    refine lv_aload_n hx hb dL_law_875 rfl (lv_at hl 2 rfl) ?_
    refine lv_aload_n hx hb dL_law_876 rfl (lv_at hl 4 rfl) ?_
    refine lv_iload hx hb dL_law_877 (lv_at hl 0 rfl) ?_
    refine lv_iconst (v := iI (1)) hx hb dL_law_879 rfl ?_
    refine ri_iadd hx hb dL_law_880 ?_
    refine h_sld hx hb hX hbl hbA hS (i + 1) (by omega) (by omega) hL dL_law_881 ?_
    have hop : opCarrier (va_up F 0 0) M (ys (i + 1)) = (-1, va_up F 0 0, M) := if_pos (by show F 5 = 40 ∨ _ ∨ _; omega)
    refine rc_I (W.runV (As := [.int (iI (ys (i + 1)))]) (rest := [.int (iI (-1))]) ⟨hx, hb, hml, hown, hts⟩ (mm_carrier l D cA (AMs o ad) o ad F G M X Z 360 (by decide) hF hG hNM hXB hZ (ys (i + 1)) (hy _)) (cwV 1 hts (lw_V q1254 q1255 q1256 q62 q1257) rfl rfl rfl (by decide +kernel) ⟨Nat.le_of_ble_eq_true rfl, Nat.le_of_ble_eq_true rfl⟩) (lpM hK hM) rfl rfl hl.1 rfl (lv_room (Nat.le_of_ble_eq_true rfl)) dL_law_882 ⟨by show cells + 0 ≤ 601024; omega, by show slots + 0 ≤ 7293034; omega⟩) hS (fun q _ h => hMn q h) (fun q h => hMn q h) (fun z H1 locs1 hp hS hz hq => ?_)
    have hW := keepC hW hF hNC hz hq
    have hO := hO.kept (hq _ hO.lt hoM)
    rw [hop] at hp
    obtain ⟨rfl, hM⟩ := hp
    refine i_same (tgt := 1014) hx hb dL_law_885 (by decide) ?_
    exact W.widen (k := cells + 430) (n := slots + 97000) (by omega) (by omega) (kk _ _ _ ⟨_, _, _, _, _, _, _, _, _, hM, hW.cgF rfl rfl rfl rfl rfl, hO, rfl, hR.F rfl rfl rfl, hNM, hF.up (Nat.zero_le _), hG, hXB⟩ hS (lv_sub hl [0, 1, 2, 3, 4] rfl))

set_option maxHeartbeats 4000000 in
set_option maxRecDepth 100000 in
theorem lc_plan {p : Program} {l : Launch} {e : Env} {s : State} {m : MethodId} {below : List Frame} {meth : Method} {c : Code} {b L : Nat} {ys : Nat → Int} {D : va_G} {cA : Nat → ClassId} {sa : Nat → Nat} {o xo oa : Nat} {ad : Nat → Nat} (hls : l.stackTraces = false) (hC : LX p s m c b L ys D cA sa o oa ad) {H : Heap} {locs : List Loc} {ls : Array Slot} {cells slots i : Nat} (hi : i + 7 ≤ L) (hLI : LI D cA sa s.heap.size o xo oa ad H) (hS : va_S (nw s) s.heap H locs) (hl : lv_has ls 7 [(4, .int (iI ((i : Nat)))), (3, .ref oa), (2, .ref o), (1, .ref xo), (0, .ref b)]) (hc : cells + 430 ≤ 601024) (hs : slots + 97000 ≤ 7293034) (kk : ∀ (H1 : Heap) (locs1 : List Loc) (ls1 : Array Slot), LI D cA sa s.heap.size o xo oa ad H1 → va_S (nw s) s.heap H1 locs1 → lv_has ls1 7 [(4, .int (iI ((i : Nat)))), (3, .ref oa), (2, .ref o), (1, .ref xo), (0, .ref b)] → W p l e room_1 s m #[Value.ref b] below meth c H1 locs1 (cells + 430) (slots + 97000) (lw_Z below #[Value.ref b] s) (F0 m 1014 ls1 [])) : W p l e room_1 s m #[Value.ref b] below meth c H locs cells slots (lw_Z below #[Value.ref b] s) (F0 m 337 ls []) := by
  obtain ⟨hx, hb, hml, hown, hts, hK, hSX, hTX, hNc, hX, hbl, hy, hL, hoM, hon, hMn⟩ := hC
  obtain ⟨F, G, M, X, C, Z, E, adC, g, hM, hW, hO, rfl, hR, hNM, hF, hG, hXB⟩ := hLI
  have hNC := hR.1.1.2.1
  have hwf := hR.1.1.1
  have hZ := hR.1.ZB
  have hbA : ¬ nw s b := fun h => by unfold nw at h; omega
  have hF1 : F 1 ≤ 1439 := hF 1
  have hF2 : F 2 ≤ 10 := hF 2
  have hF3 : F 3 ≤ 16 := hF 3
  have hF4 : F 4 ≤ 60 := hF 4
  have hF5 : F 5 ≤ 40 := hF 5
  refine lv_aload_n hx hb dL_law_337 rfl (lv_at hl 3 rfl) ?_
  refine rc_I (W.runV (As := []) (rest := []) ⟨hx, hb, hml, hown, hts⟩ (cc_X1_plan l D cA (ACs s.heap.size o oa ad) sa adC F C Z E 360 (by decide) hF hNC hZ hwf (by decide)) (cwV 0 hts (lw_V q650 q651 q652 q42 q653) rfl rfl rfl (by decide +kernel) ⟨Nat.le_of_ble_eq_true rfl, Nat.le_of_ble_eq_true rfl⟩) (lpC hK hSX hS hW) rfl rfl hl.1 rfl (lv_room (Nat.le_of_ble_eq_true rfl)) dL_law_338 ⟨by show cells + 360 ≤ 601024; omega, by show slots + 72540 ≤ 7293034; omega⟩) hS (fun q _ h => h.1) (fun q h => h.1) (fun z H1 locs1 hp hS hz hq => ?_)
  have hM := keepM hM hoM (fun q h1 h2 => hq q h1 (fun z => h2 (Or.inl z)))
  have hO := hO.kept (hq _ hO.lt acs_oa)
  obtain ⟨ad2, E2, hadq, rfl, hN2, hwf2, hZ2, hW⟩ := hp
  refine lv_aload_n hx hb dL_law_341 rfl (lv_at hl 2 rfl) ?_
  refine rc_I (W.runV (As := []) (rest := [.int (iI (((pcIt F C Z (F 4)).2.2 : Nat)))]) ⟨hx, hb, hml, hown, hts⟩ (mm_plan l D cA (AMs o ad) o ad F G M X Z 360 (by decide) hF hG hNM hXB hZ (by decide)) (cwV 0 hts (lw_V q1121 q1122 q1123 q62 q1124) rfl rfl rfl (by decide +kernel) ⟨Nat.le_of_ble_eq_true rfl, Nat.le_of_ble_eq_true rfl⟩) (lpM hK hM) rfl rfl hl.1 rfl (lv_room (Nat.le_of_ble_eq_true rfl)) dL_law_342 ⟨by show cells + 360 + 0 ≤ 601024; omega, by show slots + 72540 + 0 ≤ 7293034; omega⟩) hS (fun q _ h => hMn q h) (fun q h => hMn q h) (fun z H1 locs1 hp hS hz hq => ?_)
  have hW := keepC hW hF hN2 hz hq
  have hO := hO.kept (hq _ hO.lt hoM)
  obtain ⟨G2, X2, hG2, hX2, rfl, hNM2, hZm, hM⟩ := hp
  obtain ⟨e1, e2, hR2⟩ := plan_eq hR hF (F 4) (Nat.le_refl _)
  rw [e1] at hM
  refine ri_top (b := ((pcIt F C Z (F 4)).2.2 : Nat)) (by rw [e2]) ?_
  refine i_same (tgt := 1014) hx hb dL_law_345 (by decide) ?_
  exact W.widen (k := cells + 430) (n := slots + 97000) (by omega) (by omega) (kk _ _ _ ⟨_, _, _, _, _, _, _, _, _, hM, hW.cgF rfl rfl rfl rfl rfl, hO, hadq, hR2.F rfl rfl rfl, hNM2, hF.up (Nat.zero_le _), hG2, hX2⟩ hS (lv_sub hl [0, 1, 2, 3, 4] rfl))

set_option maxHeartbeats 4000000 in
set_option maxRecDepth 100000 in
theorem lc_box {p : Program} {l : Launch} {e : Env} {s : State} {m : MethodId} {below : List Frame} {meth : Method} {c : Code} {b L : Nat} {ys : Nat → Int} {D : va_G} {cA : Nat → ClassId} {sa : Nat → Nat} {o xo oa : Nat} {ad : Nat → Nat} (hls : l.stackTraces = false) (hC : LX p s m c b L ys D cA sa o oa ad) {H : Heap} {locs : List Loc} {ls : Array Slot} {cells slots i : Nat} (hi : i + 7 ≤ L) (hLI : LI D cA sa s.heap.size o xo oa ad H) (hS : va_S (nw s) s.heap H locs) (hl : lv_has ls 7 [(4, .int (iI ((i : Nat)))), (3, .ref oa), (2, .ref o), (1, .ref xo), (0, .ref b)]) (hc : cells + 430 ≤ 601024) (hs : slots + 97000 ≤ 7293034) (kk : ∀ (H1 : Heap) (locs1 : List Loc) (ls1 : Array Slot), LI D cA sa s.heap.size o xo oa ad H1 → va_S (nw s) s.heap H1 locs1 → lv_has ls1 7 [(4, .int (iI ((i : Nat)))), (3, .ref oa), (2, .ref o), (1, .ref xo), (0, .ref b)] → W p l e room_1 s m #[Value.ref b] below meth c H1 locs1 (cells + 430) (slots + 97000) (lw_Z below #[Value.ref b] s) (F0 m 1014 ls1 [])) : W p l e room_1 s m #[Value.ref b] below meth c H locs cells slots (lw_Z below #[Value.ref b] s) (F0 m 250 ls []) := by
  obtain ⟨hx, hb, hml, hown, hts, hK, hSX, hTX, hNc, hX, hbl, hy, hL, hoM, hon, hMn⟩ := hC
  obtain ⟨F, G, M, X, C, Z, E, adC, g, hM, hW, hO, rfl, hR, hNM, hF, hG, hXB⟩ := hLI
  have hNC := hR.1.1.2.1
  have hwf := hR.1.1.1
  have hZ := hR.1.ZB
  have hbA : ¬ nw s b := fun h => by unfold nw at h; omega
  have hF1 : F 1 ≤ 1439 := hF 1
  have hF2 : F 2 ≤ 10 := hF 2
  have hF3 : F 3 ≤ 16 := hF 3
  have hF4 : F 4 ≤ 60 := hF 4
  have hF5 : F 5 ≤ 40 := hF 5
  refine lv_aload_n hx hb dL_law_250 rfl (lv_at hl 3 rfl) ?_
  refine lv_aload_n hx hb dL_law_251 rfl (lv_at hl 4 rfl) ?_
  refine lv_iload hx hb dL_law_252 (lv_at hl 0 rfl) ?_
  refine lv_iconst (v := iI (1)) hx hb dL_law_254 rfl ?_
  refine ri_iadd hx hb dL_law_255 ?_
  refine h_sld hx hb hX hbl hbA hS (i + 1) (by omega) (by omega) hL dL_law_256 ?_
  refine lv_aload_n hx hb dL_law_257 rfl (lv_at hl 4 rfl) ?_
  refine lv_iload hx hb dL_law_258 (lv_at hl 0 rfl) ?_
  refine lv_iconst (v := iI (2)) hx hb dL_law_260 rfl ?_
  refine ri_iadd hx hb dL_law_261 ?_
  refine h_sld hx hb hX hbl hbA hS (i + 2) (by omega) (by omega) hL dL_law_262 ?_
  refine lv_aload_n hx hb dL_law_263 rfl (lv_at hl 4 rfl) ?_
  refine lv_iload hx hb dL_law_264 (lv_at hl 0 rfl) ?_
  refine lv_iconst (v := iI (3)) hx hb dL_law_266 rfl ?_
  refine ri_iadd hx hb dL_law_267 ?_
  refine h_sld hx hb hX hbl hbA hS (i + 3) (by omega) (by omega) hL dL_law_268 ?_
  refine lv_aload_n hx hb dL_law_269 rfl (lv_at hl 4 rfl) ?_
  refine lv_iload hx hb dL_law_270 (lv_at hl 0 rfl) ?_
  refine lv_iconst (v := iI (4)) hx hb dL_law_272 rfl ?_
  refine ri_iadd hx hb dL_law_273 ?_
  refine h_sld hx hb hX hbl hbA hS (i + 4) (by omega) (by omega) hL dL_law_274 ?_
  refine lv_aload_n hx hb dL_law_275 rfl (lv_at hl 4 rfl) ?_
  refine lv_iload hx hb dL_law_276 (lv_at hl 0 rfl) ?_
  refine lv_iconst (v := iI (5)) hx hb dL_law_278 rfl ?_
  refine ri_iadd hx hb dL_law_279 ?_
  refine h_sld hx hb hX hbl hbA hS (i + 5) (by omega) (by omega) hL dL_law_280 ?_
  refine lv_aload_n hx hb dL_law_281 rfl (lv_at hl 4 rfl) ?_
  refine lv_iload hx hb dL_law_282 (lv_at hl 0 rfl) ?_
  refine lv_bipush (v := iI (6)) hx hb dL_law_284 (by decide) ?_
  refine ri_iadd hx hb dL_law_286 ?_
  refine h_sld hx hb hX hbl hbA hS (i + 6) (by omega) (by omega) hL dL_law_287 ?_
  by_cases hgd : okBox F (ys (i + 1)) (ys (i + 2)) (ys (i + 3)) (ys (i + 4)) (ys (i + 5)) (ys (i + 6))
  · skip
    have hgd0 := hgd
    obtain ⟨k1, k2, k3, k4, k5, k6, k7, k8, k9, k10, k11, k12, k13⟩ := hgd
    obtain ⟨v1, hv1⟩ := Int.eq_ofNat_of_zero_le (show 0 ≤ ys (i + 1) by omega)
    obtain ⟨v2, hv2⟩ := Int.eq_ofNat_of_zero_le (show 0 ≤ ys (i + 2) by omega)
    obtain ⟨v3, hv3⟩ := Int.eq_ofNat_of_zero_le (show 0 ≤ ys (i + 3) by omega)
    obtain ⟨v4, hv4⟩ := Int.eq_ofNat_of_zero_le (show 0 ≤ ys (i + 4) by omega)
    obtain ⟨v5, hv5⟩ := Int.eq_ofNat_of_zero_le (show 0 ≤ ys (i + 5) by omega)
    obtain ⟨v6, hv6⟩ := Int.eq_ofNat_of_zero_le (show 0 ≤ ys (i + 6) by omega)
    have hnt : ¬ TL F C (2 * F 4) := fun q => by have := tl_lt q; omega
    obtain ⟨h24, h25, h26⟩ := hR.1.1.2.2.1 _ hnt
    rw [hv1, hv2, hv3, hv4, hv5, hv6]
    refine rc_I (W.runV (As := [.int (iI ((v1 : Nat))), .int (iI ((v2 : Nat))), .int (iI ((v3 : Nat))), .int (iI ((v4 : Nat))), .int (iI ((v5 : Nat))), .int (iI ((v6 : Nat)))]) (rest := []) ⟨hx, hb, hml, hown, hts⟩ (cc_X1_box l D cA (ACs s.heap.size o oa ad) sa adC F C Z E 360 (by decide) hF hNC hZ hwf v1 v2 v3 v4 v5 v6 (by omega) (by omega) (by omega) (by omega) (by omega) (by omega) k13 (hR.1.1.2.2.2.1 (F 4) (Nat.le_refl _)) h24 h25 h26) (cwV 6 hts (lw_V q552 q553 q554 q42 q555) rfl rfl rfl (by decide +kernel) ⟨Nat.le_of_ble_eq_true rfl, Nat.le_of_ble_eq_true rfl⟩) (lpC hK hSX hS hW) rfl rfl hl.1 rfl (lv_room (Nat.le_of_ble_eq_true rfl)) dL_law_288 ⟨by show cells + 5 ≤ 601024; omega, by show slots + 420 ≤ 7293034; omega⟩) hS (fun q _ h => h.1) (fun q h => h.1) (fun z H1 locs1 hp hS hz hq => ?_)
    have hM := keepM hM hoM (fun q h1 h2 => hq q h1 (fun z => h2 (Or.inl z)))
    have hO := hO.kept (hq _ hO.lt acs_oa)
    obtain ⟨rfl, ad2, hadq, hW⟩ := hp
    refine lv_aload_n hx hb dL_law_291 rfl (lv_at hl 2 rfl) ?_
    refine lv_aload_n hx hb dL_law_292 rfl (lv_at hl 4 rfl) ?_
    refine lv_iload hx hb dL_law_293 (lv_at hl 0 rfl) ?_
    refine lv_iconst (v := iI (1)) hx hb dL_law_295 rfl ?_
    refine ri_iadd hx hb dL_law_296 ?_
    refine h_sld hx hb hX hbl hbA hS (i + 1) (by omega) (by omega) hL dL_law_297 ?_
    refine lv_aload_n hx hb dL_law_298 rfl (lv_at hl 4 rfl) ?_
    refine lv_iload hx hb dL_law_299 (lv_at hl 0 rfl) ?_
    refine lv_iconst (v := iI (2)) hx hb dL_law_301 rfl ?_
    refine ri_iadd hx hb dL_law_302 ?_
    refine h_sld hx hb hX hbl hbA hS (i + 2) (by omega) (by omega) hL dL_law_303 ?_
    refine lv_aload_n hx hb dL_law_304 rfl (lv_at hl 4 rfl) ?_
    refine lv_iload hx hb dL_law_305 (lv_at hl 0 rfl) ?_
    refine lv_iconst (v := iI (3)) hx hb dL_law_307 rfl ?_
    refine ri_iadd hx hb dL_law_308 ?_
    refine h_sld hx hb hX hbl hbA hS (i + 3) (by omega) (by omega) hL dL_law_309 ?_
    refine lv_aload_n hx hb dL_law_310 rfl (lv_at hl 4 rfl) ?_
    refine lv_iload hx hb dL_law_311 (lv_at hl 0 rfl) ?_
    refine lv_iconst (v := iI (4)) hx hb dL_law_313 rfl ?_
    refine ri_iadd hx hb dL_law_314 ?_
    refine h_sld hx hb hX hbl hbA hS (i + 4) (by omega) (by omega) hL dL_law_315 ?_
    refine lv_aload_n hx hb dL_law_316 rfl (lv_at hl 4 rfl) ?_
    refine lv_iload hx hb dL_law_317 (lv_at hl 0 rfl) ?_
    refine lv_iconst (v := iI (5)) hx hb dL_law_319 rfl ?_
    refine ri_iadd hx hb dL_law_320 ?_
    refine h_sld hx hb hX hbl hbA hS (i + 5) (by omega) (by omega) hL dL_law_321 ?_
    refine lv_aload_n hx hb dL_law_322 rfl (lv_at hl 4 rfl) ?_
    refine lv_iload hx hb dL_law_323 (lv_at hl 0 rfl) ?_
    refine lv_bipush (v := iI (6)) hx hb dL_law_325 (by decide) ?_
    refine ri_iadd hx hb dL_law_327 ?_
    refine h_sld hx hb hX hbl hbA hS (i + 6) (by omega) (by omega) hL dL_law_328 ?_
    have hFb : FB (va_up F 4 (F 4 + 1)) := hF.up (by show F 4 + 1 ≤ 60; omega)
    have hNb : NB (boxN C (F 4) v1 v2 v3 v4 v5 v6) := ((((((hNC.up (by show v1 ≤ 9; omega)).up (by show v2 ≤ 120; omega)).up (by show v3 ≤ 1439; omega)).up (by show v4 ≤ 9; omega)).up (by show v5 ≤ 120; omega)).up (by show v6 ≤ 1439; omega))
    have hNm : NB (boxN M (F 4) v1 v2 v3 v4 v5 v6) := ((((((hNM.up (by show v1 ≤ 9; omega)).up (by show v2 ≤ 120; omega)).up (by show v3 ≤ 1439; omega)).up (by show v4 ≤ 9; omega)).up (by show v5 ≤ 120; omega)).up (by show v6 ≤ 1439; omega))
    refine rc_I (W.runV (As := [.int (iI (ys (i + 1))), .int (iI (ys (i + 2))), .int (iI (ys (i + 3))), .int (iI (ys (i + 4))), .int (iI (ys (i + 5))), .int (iI (ys (i + 6)))]) (rest := [.int (iI ((F 4 : Nat)))]) ⟨hx, hb, hml, hown, hts⟩ (mm_box l D cA (AMs o ad) o ad F G M X Z 360 (by decide) hF hG hNM hXB hZ (ys (i + 1)) (ys (i + 2)) (ys (i + 3)) (ys (i + 4)) (ys (i + 5)) (ys (i + 6)) (hy _) (hy _) (hy _) (hy _) (hy _) (hy _)) (cwV 6 hts (lw_V q1117 q1118 q1119 q62 q1120) rfl rfl rfl (by decide +kernel) ⟨Nat.le_of_ble_eq_true rfl, Nat.le_of_ble_eq_true rfl⟩) (lpM hK hM) rfl rfl hl.1 rfl (lv_room (Nat.le_of_ble_eq_true rfl)) dL_law_329 ⟨by show cells + 5 + 0 ≤ 601024; omega, by show slots + 420 + 0 ≤ 7293034; omega⟩) hS (fun q _ h => hMn q h) (fun q h => hMn q h) (fun z H1 locs1 hp hS hz hq => ?_)
    have hW := keepC hW hFb hNb hz hq
    have hO := hO.kept (hq _ hO.lt hoM)
    obtain ⟨rfl, hM⟩ := hp.1 hgd0
    rw [hv1, hv2, hv3, hv4, hv5, hv6] at hM
    simp only [Int.toNat_natCast] at hM
    refine i_same (tgt := 1014) hx hb dL_law_332 (by decide) ?_
    exact W.widen (k := cells + 430) (n := slots + 97000) (by omega) (by omega) (kk _ _ _ ⟨_, _, _, _, _, _, _, _, _, hM, hW.cgF rfl rfl rfl rfl rfl, hO, hadq, (op_box hR hF (by omega) (by omega) (by omega) (by omega) (by omega) (by omega)).F rfl rfl rfl, (hNm.up (Nat.zero_le _)).up (Nat.zero_le _), FB.up (hF.up (Nat.zero_le _)) (by show F 4 + 1 ≤ 60; omega), hG, hXB⟩ hS (lv_sub hl [0, 1, 2, 3, 4] rfl))
  · skip
    refine rc_V (W.runV (As := [.int (iI (ys (i + 1))), .int (iI (ys (i + 2))), .int (iI (ys (i + 3))), .int (iI (ys (i + 4))), .int (iI (ys (i + 5))), .int (iI (ys (i + 6)))]) (rest := []) ⟨hx, hb, hml, hown, hts⟩ (cc_X1_box_x l D cA (ACs s.heap.size o oa ad) sa adC F C Z E 360 (by decide) hF hNC hZ hwf (ys (i + 1)) (hy _) (ys (i + 2)) (hy _) (ys (i + 3)) (hy _) (ys (i + 4)) (hy _) (ys (i + 5)) (hy _) (ys (i + 6)) (hy _) hgd) (cwV 6 hts (lw_V q552 q553 q554 q42 q555) rfl rfl rfl (by decide +kernel) ⟨Nat.le_of_ble_eq_true rfl, Nat.le_of_ble_eq_true rfl⟩) (lpC hK hSX hS hW) rfl rfl hl.1 rfl (lv_room (Nat.le_of_ble_eq_true rfl)) dL_law_288 ⟨by show cells + 0 ≤ 601024; omega, by show slots + 0 ≤ 7293034; omega⟩) ?_
    refine lv_aload_n hx hb dL_law_291 rfl (lv_at hl 2 rfl) ?_
    refine lv_aload_n hx hb dL_law_292 rfl (lv_at hl 4 rfl) ?_
    refine lv_iload hx hb dL_law_293 (lv_at hl 0 rfl) ?_
    refine lv_iconst (v := iI (1)) hx hb dL_law_295 rfl ?_
    refine ri_iadd hx hb dL_law_296 ?_
    refine h_sld hx hb hX hbl hbA hS (i + 1) (by omega) (by omega) hL dL_law_297 ?_
    refine lv_aload_n hx hb dL_law_298 rfl (lv_at hl 4 rfl) ?_
    refine lv_iload hx hb dL_law_299 (lv_at hl 0 rfl) ?_
    refine lv_iconst (v := iI (2)) hx hb dL_law_301 rfl ?_
    refine ri_iadd hx hb dL_law_302 ?_
    refine h_sld hx hb hX hbl hbA hS (i + 2) (by omega) (by omega) hL dL_law_303 ?_
    refine lv_aload_n hx hb dL_law_304 rfl (lv_at hl 4 rfl) ?_
    refine lv_iload hx hb dL_law_305 (lv_at hl 0 rfl) ?_
    refine lv_iconst (v := iI (3)) hx hb dL_law_307 rfl ?_
    refine ri_iadd hx hb dL_law_308 ?_
    refine h_sld hx hb hX hbl hbA hS (i + 3) (by omega) (by omega) hL dL_law_309 ?_
    refine lv_aload_n hx hb dL_law_310 rfl (lv_at hl 4 rfl) ?_
    refine lv_iload hx hb dL_law_311 (lv_at hl 0 rfl) ?_
    refine lv_iconst (v := iI (4)) hx hb dL_law_313 rfl ?_
    refine ri_iadd hx hb dL_law_314 ?_
    refine h_sld hx hb hX hbl hbA hS (i + 4) (by omega) (by omega) hL dL_law_315 ?_
    refine lv_aload_n hx hb dL_law_316 rfl (lv_at hl 4 rfl) ?_
    refine lv_iload hx hb dL_law_317 (lv_at hl 0 rfl) ?_
    refine lv_iconst (v := iI (5)) hx hb dL_law_319 rfl ?_
    refine ri_iadd hx hb dL_law_320 ?_
    refine h_sld hx hb hX hbl hbA hS (i + 5) (by omega) (by omega) hL dL_law_321 ?_
    refine lv_aload_n hx hb dL_law_322 rfl (lv_at hl 4 rfl) ?_
    refine lv_iload hx hb dL_law_323 (lv_at hl 0 rfl) ?_
    refine lv_bipush (v := iI (6)) hx hb dL_law_325 (by decide) ?_
    refine ri_iadd hx hb dL_law_327 ?_
    refine h_sld hx hb hX hbl hbA hS (i + 6) (by omega) (by omega) hL dL_law_328 ?_
    refine rc_I (W.runV (As := [.int (iI (ys (i + 1))), .int (iI (ys (i + 2))), .int (iI (ys (i + 3))), .int (iI (ys (i + 4))), .int (iI (ys (i + 5))), .int (iI (ys (i + 6)))]) (rest := [.int (iI (-1))]) ⟨hx, hb, hml, hown, hts⟩ (mm_box l D cA (AMs o ad) o ad F G M X Z 360 (by decide) hF hG hNM hXB hZ (ys (i + 1)) (ys (i + 2)) (ys (i + 3)) (ys (i + 4)) (ys (i + 5)) (ys (i + 6)) (hy _) (hy _) (hy _) (hy _) (hy _) (hy _)) (cwV 6 hts (lw_V q1117 q1118 q1119 q62 q1120) rfl rfl rfl (by decide +kernel) ⟨Nat.le_of_ble_eq_true rfl, Nat.le_of_ble_eq_true rfl⟩) (lpM hK hM) rfl rfl hl.1 rfl (lv_room (Nat.le_of_ble_eq_true rfl)) dL_law_329 ⟨by show cells + 0 ≤ 601024; omega, by show slots + 0 ≤ 7293034; omega⟩) hS (fun q _ h => hMn q h) (fun q h => hMn q h) (fun z H1 locs1 hp hS hz hq => ?_)
    have hW := keepC hW hF hNC hz hq
    have hO := hO.kept (hq _ hO.lt hoM)
    obtain ⟨rfl, hM⟩ := hp.2 hgd
    refine i_same (tgt := 1014) hx hb dL_law_332 (by decide) ?_
    exact W.widen (k := cells + 430) (n := slots + 97000) (by omega) (by omega) (kk _ _ _ ⟨_, _, _, _, _, _, _, _, _, hM, hW.cgF rfl rfl rfl rfl rfl, hO, rfl, hR.F rfl rfl rfl, hNM, hF.up (Nat.zero_le _), hG, hXB⟩ hS (lv_sub hl [0, 1, 2, 3, 4] rfl))
