set_option maxRecDepth 100000
set_option maxHeartbeats 4000000 in
set_option maxRecDepth 100000 in
theorem lc_stop {p : Program} {l : Launch} {e : Env} {s : State} {m : MethodId} {below : List Frame} {meth : Method} {c : Code} {b L : Nat} {ys : Nat → Int} {D : va_G} {cA : Nat → ClassId} {sa : Nat → Nat} {o xo oa : Nat} {ad : Nat → Nat} (hls : l.stackTraces = false) (hC : LX p s m c b L ys D cA sa o oa ad) {H : Heap} {locs : List Loc} {ls : Array Slot} {cells slots i : Nat} (hi : i + 7 ≤ L) (hLI : LI D cA sa s.heap.size o xo oa ad H) (hS : va_S (nw s) s.heap H locs) (hl : lv_has ls 7 [(4, .int (iI ((i : Nat)))), (3, .ref oa), (2, .ref o), (1, .ref xo), (0, .ref b)]) (hc : cells + 430 ≤ 601024) (hs : slots + 97000 ≤ 7293034) (kk : ∀ (H1 : Heap) (locs1 : List Loc) (ls1 : Array Slot), LI D cA sa s.heap.size o xo oa ad H1 → va_S (nw s) s.heap H1 locs1 → lv_has ls1 7 [(4, .int (iI ((i : Nat)))), (3, .ref oa), (2, .ref o), (1, .ref xo), (0, .ref b)] → W p l e room_1 s m #[Value.ref b] below meth c H1 locs1 (cells + 430) (slots + 97000) (lw_Z below #[Value.ref b] s) (F0 m 1014 ls1 [])) : W p l e room_1 s m #[Value.ref b] below meth c H locs cells slots (lw_Z below #[Value.ref b] s) (F0 m 170 ls []) := by
  obtain ⟨hx, hb, hml, hown, hts, hK, hSX, hTX, hNc, hX, hbl, hy, hL, hoM, hon, hMn⟩ := hC
  obtain ⟨F, G, M, X, C, Z, E, adC, g, hM, hW, hO, rfl, hR, hNM, hF, hG, hXB⟩ := hLI
  have hNC := hR.1.1.2.1
  have hwf := hR.1.1.1
  have hZ := hR.1.ZB
  have hbA : ¬ nw s b := fun h => by unfold nw at h; omega
  have hF1 : F 1 ≤ 1439 := hF 1
  have hF2 : F 2 ≤ 10 := hF 2
  have hF3 : F 3 ≤ 16 := hF 3
  have hF4 : F 4 ≤ 60 := hF 4
  have hF5 : F 5 ≤ 40 := hF 5
  refine lv_aload_n hx hb dL_law_170 rfl (lv_at hl 3 rfl) ?_
  refine lv_aload_n hx hb dL_law_171 rfl (lv_at hl 4 rfl) ?_
  refine lv_iload hx hb dL_law_172 (lv_at hl 0 rfl) ?_
  refine lv_iconst (v := iI (1)) hx hb dL_law_174 rfl ?_
  refine ri_iadd hx hb dL_law_175 ?_
  refine h_sld hx hb hX hbl hbA hS (i + 1) (by omega) (by omega) hL dL_law_176 ?_
  refine lv_aload_n hx hb dL_law_177 rfl (lv_at hl 4 rfl) ?_
  refine lv_iload hx hb dL_law_178 (lv_at hl 0 rfl) ?_
  refine lv_iconst (v := iI (2)) hx hb dL_law_180 rfl ?_
  refine ri_iadd hx hb dL_law_181 ?_
  refine h_sld hx hb hX hbl hbA hS (i + 2) (by omega) (by omega) hL dL_law_182 ?_
  refine lv_aload_n hx hb dL_law_183 rfl (lv_at hl 4 rfl) ?_
  refine lv_iload hx hb dL_law_184 (lv_at hl 0 rfl) ?_
  refine lv_iconst (v := iI (3)) hx hb dL_law_186 rfl ?_
  refine ri_iadd hx hb dL_law_187 ?_
  refine h_sld hx hb hX hbl hbA hS (i + 3) (by omega) (by omega) hL dL_law_188 ?_
  refine lv_aload_n hx hb dL_law_189 rfl (lv_at hl 1 rfl) ?_
  by_cases hgd : 0 ≤ ys (i + 1) ∧ ys (i + 1) < F 3
  · skip
    obtain ⟨v, h_v⟩ := Int.eq_ofNat_of_zero_le (show 0 ≤ ys (i + 1) by omega)
    by_cases hgd2 : C 8 v ≠ 10 ∧ 0 ≤ ys (i + 2) ∧ ys (i + 2) < F 2 ∧ 0 ≤ ys (i + 3) ∧ ys (i + 3) ≤ 1439 ∧ ¬ (C 23 v ≠ 0 ∧ plB F C v = true) ∧ ¬ (0 < C 8 v ∧ (ys (i + 3) ≤ C 10 (10 * v + (C 8 v - 1)) ∨ (C 9 (10 * v + (C 8 v - 1)) : Int) = ys (i + 2)))
    · skip
      obtain ⟨w, h_w⟩ := Int.eq_ofNat_of_zero_le (show 0 ≤ ys (i + 2) by omega)
      obtain ⟨x, h_x⟩ := Int.eq_ofNat_of_zero_le (show 0 ≤ ys (i + 3) by omega)
      rw [h_v, h_w, h_x]
      have hgd3 := hgd2
      rw [h_w, h_x] at hgd3
      have h8 : C 8 v ≤ 10 := hNC 8 v
      have hla : ¬ (0 < C 8 v ∧ (x ≤ C 10 (10 * v + (C 8 v - 1)) ∨ C 9 (10 * v + (C 8 v - 1)) = w)) := fun ⟨q1, q2⟩ => hgd3.2.2.2.2.2.2 ⟨q1, q2.imp (fun z => by omega) (fun z => by omega)⟩
      have hqw : inR ((w : Nat) : Int) := by rw [← h_w]; exact hy _
      have hqx : inR ((x : Nat) : Int) := by rw [← h_x]; exact hy _
      have r8 : M 8 = C 8 := hR.2.2.1 8 (by decide) (by decide) (by decide)
      have h8M : M 8 v = C 8 v := by rw [r8]
      have hNb : NB (stopN C v w x) := ((hNC.up (by show w ≤ 9; omega)).up (by show x ≤ 1439; omega)).up (by show C 8 v + 1 ≤ 10; omega)
      have hNm : NB (stopN M v w x) := ((hNM.up (by show w ≤ 9; omega)).up (by show x ≤ 1439; omega)).up (by show M 8 v + 1 ≤ 10; omega)
      refine rc_I (W.runSW (n := 5) (As := [.ref (adC 0 0), .int (iI ((v : Nat))), .int (iI ((w : Nat))), .int (iI ((x : Nat))), .ref oa]) (rest := []) ⟨hx, hb, hml, hown, hts⟩ (hh_stop l D cA (ACs s.heap.size o oa ad) sa adC F C Z E 360 (by decide) hF hNC hZ hwf oa g acs_oa v w x (by omega) hgd3.1 (by omega) (by omega) hgd3.2.2.2.2.2.1 hla) (lw_SW q767 q768 q41 q769) rfl rfl (by decide +kernel) ⟨Nat.le_of_ble_eq_true rfl, Nat.le_of_ble_eq_true rfl⟩ (lpH hK hSX hTX hS hW hO) rfl rfl hl.1 rfl (lv_room (Nat.le_of_ble_eq_true rfl)) dL_law_190 ⟨by show cells + 2 ≤ 601024; omega, by show slots + 402 ≤ 7293034; omega⟩) hS (fun q _ h => ao_nw hon h) (fun q h => ao_nw hon h) (fun z H1 locs1 hp hS hz hq => ?_)
      have hM := keepM hM hoM hq
      obtain ⟨rfl, ⟨ad2, hadq, hW⟩, hO⟩ := hp
      refine lv_istore (lv' := [(5, .int (iI (0))), (4, .int (iI ((i : Nat)))), (3, .ref oa), (2, .ref o), (1, .ref (adC 0 0)), (0, .ref b)]) hx hb dL_law_193 hl (by decide) rfl (fun ls hl => ?_)
      refine lv_aload_n hx hb dL_law_195 rfl (lv_at hl 3 rfl) ?_
      refine lv_aload_n hx hb dL_law_196 rfl (lv_at hl 5 rfl) ?_
      refine lv_iload hx hb dL_law_197 (lv_at hl 1 rfl) ?_
      refine lv_iconst (v := iI (1)) hx hb dL_law_199 rfl ?_
      refine ri_iadd hx hb dL_law_200 ?_
      refine h_sld hx hb hX hbl hbA hS (i + 1) (by omega) (by omega) hL dL_law_201 ?_
      refine lv_aload_n hx hb dL_law_202 rfl (lv_at hl 5 rfl) ?_
      refine lv_iload hx hb dL_law_203 (lv_at hl 1 rfl) ?_
      refine lv_iconst (v := iI (2)) hx hb dL_law_205 rfl ?_
      refine ri_iadd hx hb dL_law_206 ?_
      refine h_sld hx hb hX hbl hbA hS (i + 2) (by omega) (by omega) hL dL_law_207 ?_
      refine lv_aload_n hx hb dL_law_208 rfl (lv_at hl 5 rfl) ?_
      refine lv_iload hx hb dL_law_209 (lv_at hl 1 rfl) ?_
      refine lv_iconst (v := iI (3)) hx hb dL_law_211 rfl ?_
      refine ri_iadd hx hb dL_law_212 ?_
      refine h_sld hx hb hX hbl hbA hS (i + 3) (by omega) (by omega) hL dL_law_213 ?_
      rw [h_v, h_w, h_x]
      refine rc_I (W.runV (As := [.int (iI ((v : Nat))), .int (iI ((w : Nat))), .int (iI ((x : Nat)))]) (rest := []) ⟨hx, hb, hml, hown, hts⟩ (mm_stop l D cA (AMs o ad) o ad F G M X Z 360 (by decide) hF hG hNM hXB hZ v (w : Nat) (x : Nat) hqw hqx (by omega)) (cwV 3 hts (lw_V q1102 q1103 q1104 q62 q1105) rfl rfl rfl (by decide +kernel) ⟨Nat.le_of_ble_eq_true rfl, Nat.le_of_ble_eq_true rfl⟩) (lpM hK hM) rfl rfl hl.1 rfl (lv_room (Nat.le_of_ble_eq_true rfl)) dL_law_214 ⟨by show cells + 2 + 0 ≤ 601024; omega, by show slots + 402 + 0 ≤ 7293034; omega⟩) hS (fun q _ h => hMn q h) (fun q h => hMn q h) (fun z H1 locs1 hp hS hz hq => ?_)
      have hW := keepC hW hF hNb hz hq
      have hO := hO.kept (hq _ hO.lt hoM)
      have hok := (st_iff hR hF v (w : Nat) (x : Nat)).mpr hgd3
      obtain ⟨rfl, hM⟩ := hp.1 hok.1 hok.2
      simp only [Int.toNat_natCast] at hM
      refine ri_top (b := ((C 8 v : Nat) : Int)) (by rw [r8]) ?_
      refine lv_istore (lv' := [(6, .int (iI ((C 8 v : Nat)))), (5, .int (iI (0))), (4, .int (iI ((i : Nat)))), (3, .ref oa), (2, .ref o), (1, .ref (adC 0 0)), (0, .ref b)]) hx hb dL_law_217 hl (by decide) rfl (fun ls hl => ?_)
      refine lv_aload_n hx hb dL_law_219 rfl (lv_at hl 4 rfl) ?_
      refine rc_V (W.runV (As := []) (rest := []) ⟨hx, hb, hml, hown, hts⟩ (mm_thrown l D cA (AMs o ad) o ad _ _ _ _ _ 360 (by decide) (hF.up (Nat.zero_le _)) hG (hNm) hXB (hZ)) (cwV 0 hts (lw_V q1090 q1091 q1092 q62 q1093) rfl rfl rfl (by decide +kernel) ⟨Nat.le_of_ble_eq_true rfl, Nat.le_of_ble_eq_true rfl⟩) (lpM hK hM) rfl rfl hl.1 rfl (lv_room (Nat.le_of_ble_eq_true rfl)) dL_law_220 ⟨by show cells + 2 + 0 + 0 ≤ 601024; omega, by show slots + 402 + 0 + 0 ≤ 7293034; omega⟩) ?_
      refine W.eq (g2 := F0 m 223 ls [.int (iI (0))]) rfl ?_
      refine lv_iload hx hb dL_law_223 (lv_at hl 1 rfl) ?_
      refine i_same (tgt := 230) hx hb dL_law_225 (by decide) ?_
      refine lv_iload hx hb dL_law_230 (lv_at hl 1 rfl) ?_
      refine ri_if_ne (tgt := 247) hx hb (by unfold inR; omega) dL_law_232 (by decide) (fun h1 => ?_) (fun h1 => ?_)
      · skip
        exfalso; omega
      · skip
        refine lv_aload_n hx hb dL_law_235 rfl (lv_at hl 3 rfl) ?_
        refine lv_iconst (v := iI (0)) hx hb dL_law_236 rfl ?_
        refine h_lald hx hb hK hO 0 rfl (by omega) (by decide) dL_law_237 ?_
        refine W.eq (g2 := F0 m 238 ls [.long ((iI ((C 8 v : Nat))).toInt64)]) rfl ?_
        refine lv_iload hx hb dL_law_238 (lv_at hl 0 rfl) ?_
        refine lv_i2l hx hb dL_law_240 rfl ?_
        refine l_same hx hb dL_law_241 ?_
        refine ri_if_eq (tgt := 247) hx hb (by unfold inR; omega) dL_law_242 (by decide) (fun h2 => ?_) (fun h2 => ?_)
        · skip
          refine lv_goto (tgt := 1014) hx hb dL_law_247 (by decide) ?_
          exact W.widen (k := cells + 430) (n := slots + 97000) (by omega) (by omega) (kk _ _ _ ⟨_, _, _, _, _, _, _, _, _, hM, hW.cgF rfl rfl rfl rfl rfl, hO, hadq, (op_stop hR hF (t := v) (by omega) hgd3.1 (by omega) (by omega) hla).F rfl rfl rfl, hNm, hF.up (Nat.zero_le _), hG, hXB⟩ hS (lv_sub hl [2, 3, 4, 5, 6] rfl))
        · skip
          exfalso; omega
    · skip
      rw [h_v]
      refine rc_I (W.runSW (n := 5) (As := [.ref (adC 0 0), .int (iI ((v : Nat))), .int (iI (ys (i + 2))), .int (iI (ys (i + 3))), .ref oa]) (rest := []) ⟨hx, hb, hml, hown, hts⟩ (hh_stop_n l D cA (ACs s.heap.size o oa ad) sa adC F C Z E 360 (by decide) hF hNC hZ hwf oa g acs_oa v (ys (i + 2)) (hy _) (ys (i + 3)) (hy _) (by omega) hgd2) (lw_SW q767 q768 q41 q769) rfl rfl (by decide +kernel) ⟨Nat.le_of_ble_eq_true rfl, Nat.le_of_ble_eq_true rfl⟩ (lpH hK hSX hTX hS hW hO) rfl rfl hl.1 rfl (lv_room (Nat.le_of_ble_eq_true rfl)) dL_law_190 ⟨by show cells + 0 ≤ 601024; omega, by show slots + 0 ≤ 7293034; omega⟩) hS (fun q _ h => ao_nw hon h) (fun q h => ao_nw hon h) (fun z H1 locs1 hp hS hz hq => ?_)
      have hM := keepM hM hoM hq
      obtain ⟨rfl, hW, hO⟩ := hp
      refine lv_istore (lv' := [(5, .int (iI (0))), (4, .int (iI ((i : Nat)))), (3, .ref oa), (2, .ref o), (1, .ref (adC 0 0)), (0, .ref b)]) hx hb dL_law_193 hl (by decide) rfl (fun ls hl => ?_)
      refine lv_aload_n hx hb dL_law_195 rfl (lv_at hl 3 rfl) ?_
      refine lv_aload_n hx hb dL_law_196 rfl (lv_at hl 5 rfl) ?_
      refine lv_iload hx hb dL_law_197 (lv_at hl 1 rfl) ?_
      refine lv_iconst (v := iI (1)) hx hb dL_law_199 rfl ?_
      refine ri_iadd hx hb dL_law_200 ?_
      refine h_sld hx hb hX hbl hbA hS (i + 1) (by omega) (by omega) hL dL_law_201 ?_
      refine lv_aload_n hx hb dL_law_202 rfl (lv_at hl 5 rfl) ?_
      refine lv_iload hx hb dL_law_203 (lv_at hl 1 rfl) ?_
      refine lv_iconst (v := iI (2)) hx hb dL_law_205 rfl ?_
      refine ri_iadd hx hb dL_law_206 ?_
      refine h_sld hx hb hX hbl hbA hS (i + 2) (by omega) (by omega) hL dL_law_207 ?_
      refine lv_aload_n hx hb dL_law_208 rfl (lv_at hl 5 rfl) ?_
      refine lv_iload hx hb dL_law_209 (lv_at hl 1 rfl) ?_
      refine lv_iconst (v := iI (3)) hx hb dL_law_211 rfl ?_
      refine ri_iadd hx hb dL_law_212 ?_
      refine h_sld hx hb hX hbl hbA hS (i + 3) (by omega) (by omega) hL dL_law_213 ?_
      rw [h_v]
      refine rc_I (W.runV (As := [.int (iI ((v : Nat))), .int (iI (ys (i + 2))), .int (iI (ys (i + 3)))]) (rest := []) ⟨hx, hb, hml, hown, hts⟩ (mm_stop l D cA (AMs o ad) o ad F G M X Z 360 (by decide) hF hG hNM hXB hZ v (ys (i + 2)) (ys (i + 3)) (hy _) (hy _) (by omega)) (cwV 3 hts (lw_V q1102 q1103 q1104 q62 q1105) rfl rfl rfl (by decide +kernel) ⟨Nat.le_of_ble_eq_true rfl, Nat.le_of_ble_eq_true rfl⟩) (lpM hK hM) rfl rfl hl.1 rfl (lv_room (Nat.le_of_ble_eq_true rfl)) dL_law_214 ⟨by show cells + 0 + 0 ≤ 601024; omega, by show slots + 0 + 0 ≤ 7293034; omega⟩) hS (fun q _ h => hMn q h) (fun q h => hMn q h) (fun z H1 locs1 hp hS hz hq => ?_)
      have hW := keepC hW hF hNC hz hq
      have hO := hO.kept (hq _ hO.lt hoM)
      obtain ⟨rfl, hM⟩ := hp.2 (fun q => hgd2 ((st_iff hR hF _ _ _).mp q))
      refine lv_istore (lv' := [(6, .int (iI (-1))), (5, .int (iI (0))), (4, .int (iI ((i : Nat)))), (3, .ref oa), (2, .ref o), (1, .ref (adC 0 0)), (0, .ref b)]) hx hb dL_law_217 hl (by decide) rfl (fun ls hl => ?_)
      refine lv_aload_n hx hb dL_law_219 rfl (lv_at hl 4 rfl) ?_
      refine rc_V (W.runV (As := []) (rest := []) ⟨hx, hb, hml, hown, hts⟩ (mm_thrown l D cA (AMs o ad) o ad _ _ _ _ _ 360 (by decide) (hF.up (Nat.zero_le _)) hG (hNM) hXB (hZ)) (cwV 0 hts (lw_V q1090 q1091 q1092 q62 q1093) rfl rfl rfl (by decide +kernel) ⟨Nat.le_of_ble_eq_true rfl, Nat.le_of_ble_eq_true rfl⟩) (lpM hK hM) rfl rfl hl.1 rfl (lv_room (Nat.le_of_ble_eq_true rfl)) dL_law_220 ⟨by show cells + 0 + 0 + 0 ≤ 601024; omega, by show slots + 0 + 0 + 0 ≤ 7293034; omega⟩) ?_
      refine W.eq (g2 := F0 m 223 ls [.int (iI (0))]) rfl ?_
      refine lv_iload hx hb dL_law_223 (lv_at hl 1 rfl) ?_
      refine i_same (tgt := 230) hx hb dL_law_225 (by decide) ?_
      refine lv_iload hx hb dL_law_230 (lv_at hl 1 rfl) ?_
      refine ri_if_ne (tgt := 247) hx hb (by unfold inR; omega) dL_law_232 (by decide) (fun h3 => ?_) (fun h3 => ?_)
      · skip
        exfalso; omega
      · skip
        refine lv_aload_n hx hb dL_law_235 rfl (lv_at hl 3 rfl) ?_
        refine lv_iconst (v := iI (0)) hx hb dL_law_236 rfl ?_
        refine h_lald hx hb hK hO 0 rfl (by omega) (by decide) dL_law_237 ?_
        refine W.eq (g2 := F0 m 238 ls [.long ((iI (-1)).toInt64)]) rfl ?_
        refine lv_iload hx hb dL_law_238 (lv_at hl 0 rfl) ?_
        refine lv_i2l hx hb dL_law_240 rfl ?_
        refine l_same hx hb dL_law_241 ?_
        refine ri_if_eq (tgt := 247) hx hb (by unfold inR; omega) dL_law_242 (by decide) (fun h4 => ?_) (fun h4 => ?_)
        · skip
          refine lv_goto (tgt := 1014) hx hb dL_law_247 (by decide) ?_
          exact W.widen (k := cells + 430) (n := slots + 97000) (by omega) (by omega) (kk _ _ _ ⟨_, _, _, _, _, _, _, _, _, hM, hW.cgF rfl rfl rfl rfl rfl, hO, rfl, hR.F rfl rfl rfl, hNM, hF.up (Nat.zero_le _), hG, hXB⟩ hS (lv_sub hl [2, 3, 4, 5, 6] rfl))
        · skip
          exfalso; omega
  · skip
    refine rc_I (W.runSW (n := 5) (As := [.ref (adC 0 0), .int (iI (ys (i + 1))), .int (iI (ys (i + 2))), .int (iI (ys (i + 3))), .ref oa]) (rest := []) ⟨hx, hb, hml, hown, hts⟩ (hh_stop_t l hls D cA (ACs s.heap.size o oa ad) sa adC F C Z E 360 (by decide) hF hNC hZ hwf oa g acs_oa (ys (i + 1)) (ys (i + 2)) (ys (i + 3)) (hy _) hgd) (lw_SW q767 q768 q41 q769) rfl rfl (by decide +kernel) ⟨Nat.le_of_ble_eq_true rfl, Nat.le_of_ble_eq_true rfl⟩ (lpH hK hSX hTX hS hW hO) rfl rfl hl.1 rfl (lv_room (Nat.le_of_ble_eq_true rfl)) dL_law_190 ⟨by show cells + 1 ≤ 601024; omega, by show slots + 6 ≤ 7293034; omega⟩) hS (fun q _ h => ao_nw hon h) (fun q h => ao_nw hon h) (fun z H1 locs1 hp hS hz hq => ?_)
    have hM := keepM hM hoM hq
    obtain ⟨rfl, hW, hO⟩ := hp
    refine lv_istore (lv' := [(5, .int (iI (1))), (4, .int (iI ((i : Nat)))), (3, .ref oa), (2, .ref o), (1, .ref (adC 0 0)), (0, .ref b)]) hx hb dL_law_193 hl (by decide) rfl (fun ls hl => ?_)
    refine lv_aload_n hx hb dL_law_195 rfl (lv_at hl 3 rfl) ?_
    refine lv_aload_n hx hb dL_law_196 rfl (lv_at hl 5 rfl) ?_
    refine lv_iload hx hb dL_law_197 (lv_at hl 1 rfl) ?_
    refine lv_iconst (v := iI (1)) hx hb dL_law_199 rfl ?_
    refine ri_iadd hx hb dL_law_200 ?_
    refine h_sld hx hb hX hbl hbA hS (i + 1) (by omega) (by omega) hL dL_law_201 ?_
    refine lv_aload_n hx hb dL_law_202 rfl (lv_at hl 5 rfl) ?_
    refine lv_iload hx hb dL_law_203 (lv_at hl 1 rfl) ?_
    refine lv_iconst (v := iI (2)) hx hb dL_law_205 rfl ?_
    refine ri_iadd hx hb dL_law_206 ?_
    refine h_sld hx hb hX hbl hbA hS (i + 2) (by omega) (by omega) hL dL_law_207 ?_
    refine lv_aload_n hx hb dL_law_208 rfl (lv_at hl 5 rfl) ?_
    refine lv_iload hx hb dL_law_209 (lv_at hl 1 rfl) ?_
    refine lv_iconst (v := iI (3)) hx hb dL_law_211 rfl ?_
    refine ri_iadd hx hb dL_law_212 ?_
    refine h_sld hx hb hX hbl hbA hS (i + 3) (by omega) (by omega) hL dL_law_213 ?_
    refine rc_I (W.runV (As := [.int (iI (ys (i + 1))), .int (iI (ys (i + 2))), .int (iI (ys (i + 3)))]) (rest := []) ⟨hx, hb, hml, hown, hts⟩ (mm_stop_x l D cA (AMs o ad) o ad F G M X Z 360 (by decide) hF hG hNM hXB hZ (ys (i + 1)) (ys (i + 2)) (ys (i + 3)) (hy _) (hy _) (hy _) (fun ⟨a, h1, h2⟩ => hgd (by omega))) (cwV 3 hts (lw_V q1102 q1103 q1104 q62 q1105) rfl rfl rfl (by decide +kernel) ⟨Nat.le_of_ble_eq_true rfl, Nat.le_of_ble_eq_true rfl⟩) (lpM hK hM) rfl rfl hl.1 rfl (lv_room (Nat.le_of_ble_eq_true rfl)) dL_law_214 ⟨by show cells + 1 + 0 ≤ 601024; omega, by show slots + 6 + 0 ≤ 7293034; omega⟩) hS (fun q _ h => hMn q h) (fun q h => hMn q h) (fun z H1 locs1 hp hS hz hq => ?_)
    have hW := keepC hW hF hNC hz hq
    have hO := hO.kept (hq _ hO.lt hoM)
    have hM := hp
    refine lv_istore (lv' := [(6, .int (iI (z))), (5, .int (iI (1))), (4, .int (iI ((i : Nat)))), (3, .ref oa), (2, .ref o), (1, .ref (adC 0 0)), (0, .ref b)]) hx hb dL_law_217 hl (by decide) rfl (fun ls hl => ?_)
    refine lv_aload_n hx hb dL_law_219 rfl (lv_at hl 4 rfl) ?_
    refine rc_V (W.runV (As := []) (rest := []) ⟨hx, hb, hml, hown, hts⟩ (mm_thrown l D cA (AMs o ad) o ad _ _ _ _ _ 360 (by decide) (FB.up (hF.up (Nat.zero_le _)) (by show 1 ≤ 2; omega)) hG (hNM) hXB (hZ)) (cwV 0 hts (lw_V q1090 q1091 q1092 q62 q1093) rfl rfl rfl (by decide +kernel) ⟨Nat.le_of_ble_eq_true rfl, Nat.le_of_ble_eq_true rfl⟩) (lpM hK hM) rfl rfl hl.1 rfl (lv_room (Nat.le_of_ble_eq_true rfl)) dL_law_220 ⟨by show cells + 1 + 0 + 0 ≤ 601024; omega, by show slots + 6 + 0 + 0 ≤ 7293034; omega⟩) ?_
    refine W.eq (g2 := F0 m 223 ls [.int (iI (1))]) rfl ?_
    refine lv_iload hx hb dL_law_223 (lv_at hl 1 rfl) ?_
    refine i_same (tgt := 230) hx hb dL_law_225 (by decide) ?_
    refine lv_iload hx hb dL_law_230 (lv_at hl 1 rfl) ?_
    refine ri_if_ne (tgt := 247) hx hb (by unfold inR; omega) dL_law_232 (by decide) (fun h5 => ?_) (fun h5 => ?_)
    · skip
      refine lv_goto (tgt := 1014) hx hb dL_law_247 (by decide) ?_
      exact W.widen (k := cells + 430) (n := slots + 97000) (by omega) (by omega) (kk _ _ _ ⟨_, _, _, _, _, _, _, _, _, hM, hW.cgF rfl rfl rfl rfl rfl, hO, rfl, hR.F rfl rfl rfl, hNM, FB.up (hF.up (Nat.zero_le _)) (by show 1 ≤ 2; omega), hG, hXB⟩ hS (lv_sub hl [2, 3, 4, 5, 6] rfl))
    · skip
      exfalso; omega
