set_option maxRecDepth 100000
theorem and15 (x : Int32) : ∃ r : Nat, r ≤ 15 ∧ x &&& iI 15 = iI (r : Int) := by
  refine ⟨(x.toBitVec &&& 15#32).toNat, ?_, ?_⟩
  · rw [BitVec.toNat_and]
    exact Nat.and_le_right
  · apply Int32.toBitVec_inj.mp
    rw [Int32.toBitVec_and]
    show _ = (Int32.ofInt _).toBitVec
    rw [Int32.toBitVec_ofInt, BitVec.ofInt_natCast, BitVec.ofNat_toNat, BitVec.setWidth_eq]
    rfl
set_option maxHeartbeats 4000000 in
theorem lw_round {p : Program} {l : Launch} {e : Env} {s : State} {m : MethodId} {below : List Frame} {meth : Method} {c : Code} {b L : Nat} {ys : Nat → Int} {D : va_G} {cA : Nat → ClassId} {sa : Nat → Nat} {o xo oa : Nat} {ad : Nat → Nat} (hls : l.stackTraces = false) (hC : LX p s m c b L ys D cA sa o oa ad) {H : Heap} {locs : List Loc} {ls : Array Slot} {cells slots i : Nat} (hLI : LI D cA sa s.heap.size o xo oa ad H) (hS : va_S (nw s) s.heap H locs) (hi4 : i ≤ 448) (hl : lv_has ls 7 [(4, .int (iI ((i : Nat)))), (3, .ref oa), (2, .ref o), (1, .ref xo), (0, .ref b)]) (hc : i + 7 ≤ L → cells + 430 ≤ 601024) (hs : i + 7 ≤ L → slots + 97000 ≤ 7293034) (ke : L < i + 7 → W p l e room_1 s m #[Value.ref b] below meth c H locs cells slots (lw_Z below #[Value.ref b] s) (F0 m 1020 ls [])) (kn : i + 7 ≤ L → ∀ (H1 : Heap) (locs1 : List Loc) (ls1 : Array Slot), LI D cA sa s.heap.size o xo oa ad H1 → va_S (nw s) s.heap H1 locs1 → lv_has ls1 7 [(4, .int (iI ((i + 7 : Nat)))), (3, .ref oa), (2, .ref o), (1, .ref xo), (0, .ref b)] → W p l e room_1 s m #[Value.ref b] below meth c H1 locs1 (cells + 430) (slots + 97000) (lw_Z below #[Value.ref b] s) (F0 m 23 ls1 [])) : W p l e room_1 s m #[Value.ref b] below meth c H locs cells slots (lw_Z below #[Value.ref b] s) (F0 m 23 ls []) := by
  obtain ⟨hx, hb, hml, hown, hts, hK, hSX, hTX, hNc, hX, hbl, hy, hL, hoM, hon, hMn⟩ := id hC
  have hbA : ¬ nw s b := fun h => by unfold nw at h; omega
  refine lv_iload hx hb dL_law_23 (lv_at hl 0 rfl) ?_
  refine lv_aload_n hx hb dL_law_25 rfl (lv_at hl 4 rfl) ?_
  refine h_slen hx hb hX hbl hbA hS dL_law_26 ?_
  refine lv_bipush (v := iI (7)) hx hb dL_law_27 (by decide) ?_
  refine ri_isub hx hb dL_law_29 ?_
  by_cases hlt : L < i + 7
  · skip
    refine ri_icmp_gt (tgt := 1020) hx hb (by unfold inR; omega) (by unfold inR; omega) dL_law_30 (by decide) (fun h => ke hlt) (fun h => ?_)
    exfalso; omega
  have hi : i + 7 ≤ L := by omega
  have hc := hc hi
  have hs := hs hi
  refine ri_icmp_gt (tgt := 1020) hx hb (by unfold inR; omega) (by unfold inR; omega) dL_law_30 (by decide) (fun h => ?_) (fun h => ?_)
  · exfalso; omega
  have kk : ∀ (H1 : Heap) (locs1 : List Loc) (ls1 : Array Slot), LI D cA sa s.heap.size o xo oa ad H1 → va_S (nw s) s.heap H1 locs1 → lv_has ls1 7 [(4, .int (iI ((i : Nat)))), (3, .ref oa), (2, .ref o), (1, .ref xo), (0, .ref b)] → W p l e room_1 s m #[Value.ref b] below meth c H1 locs1 (cells + 430) (slots + 97000) (lw_Z below #[Value.ref b] s) (F0 m 1014 ls1 []) := by
    intro H1 locs1 ls1 w1 w2 w3
    refine lv_iinc (v := iI ((i + 7 : Nat))) (lv' := [(4, .int (iI ((i + 7 : Nat)))), (3, .ref oa), (2, .ref o), (1, .ref xo), (0, .ref b)]) hx hb dL_law_1014 w3 (k := 0) rfl (by rw [Int.natCast_add]; exact iI_add _ _) (by decide) rfl (fun ls2 hl2 => ?_)
    refine lv_goto (tgt := 23) hx hb dL_law_1017 (by decide) ?_
    exact kn hi _ _ _ w1 w2 hl2
  refine lv_aload_n hx hb dL_law_33 rfl (lv_at hl 4 rfl) ?_
  refine lv_iload hx hb dL_law_34 (lv_at hl 0 rfl) ?_
  refine h_sld hx hb hX hbl hbA hS i rfl (by omega) hL dL_law_36 ?_
  refine lv_bipush (v := iI (15)) hx hb dL_law_37 (by decide) ?_
  refine lv_iand hx hb dL_law_39 ?_
  obtain ⟨r, hr15, hre⟩ := and15 (iI (ys i))
  rw [hre]
  rcases (by omega : r = 0 ∨ r = 1 ∨ r = 2 ∨ r = 3 ∨ r = 4 ∨ r = 5 ∨ r = 6 ∨ r = 7 ∨ r = 8 ∨ r = 9 ∨ r = 10 ∨ r = 11 ∨ r = 12 ∨ r = 13 ∨ r = 14 ∨ r = 15) with rfl | rfl | rfl | rfl | rfl | rfl | rfl | rfl | rfl | rfl | rfl | rfl | rfl | rfl | rfl | rfl
  · refine lv_tableIn (tgt := 120) (off := 80) hx hb dL_law_40 (by decide) (by decide) (by decide) (by decide) ?_
    exact lc_station hls hC hi hLI hS hl hc hs kk
  · refine lv_tableIn (tgt := 145) (off := 105) hx hb dL_law_40 (by decide) (by decide) (by decide) (by decide) ?_
    exact lc_train hls hC hi hLI hS hl hc hs kk
  · refine lv_tableIn (tgt := 170) (off := 130) hx hb dL_law_40 (by decide) (by decide) (by decide) (by decide) ?_
    exact lc_stop hls hC hi hLI hS hl hc hs kk
  · refine lv_tableIn (tgt := 250) (off := 210) hx hb dL_law_40 (by decide) (by decide) (by decide) (by decide) ?_
    exact lc_box hls hC hi hLI hS hl hc hs kk
  · refine lv_tableIn (tgt := 337) (off := 297) hx hb dL_law_40 (by decide) (by decide) (by decide) (by decide) ?_
    exact lc_plan hls hC hi hLI hS hl hc hs kk
  · refine lv_tableIn (tgt := 350) (off := 310) hx hb dL_law_40 (by decide) (by decide) (by decide) (by decide) ?_
    exact lc_minutes hls hC hi hLI hS hl hc hs kk
  · refine lv_tableIn (tgt := 406) (off := 366) hx hb dL_law_40 (by decide) (by decide) (by decide) (by decide) ?_
    exact lc_cancel hls hC hi hLI hS hl hc hs kk
  · refine lv_tableIn (tgt := 462) (off := 422) hx hb dL_law_40 (by decide) (by decide) (by decide) (by decide) ?_
    exact lc_empty hls hC hi hLI hS hl hc hs kk
  · refine lv_tableIn (tgt := 537) (off := 497) hx hb dL_law_40 (by decide) (by decide) (by decide) (by decide) ?_
    exact lc_of hls hC hi hLI hS hl hc hs kk
  · refine lv_tableIn (tgt := 605) (off := 565) hx hb dL_law_40 (by decide) (by decide) (by decide) (by decide) ?_
    exact lc_leg hls hC hi hLI hS hl hc hs kk
  · refine lv_tableIn (tgt := 685) (off := 645) hx hb dL_law_40 (by decide) (by decide) (by decide) (by decide) ?_
    exact lc_load hls hC hi hLI hS hl hc hs kk
  · refine lv_tableIn (tgt := 753) (off := 713) hx hb dL_law_40 (by decide) (by decide) (by decide) (by decide) ?_
    exact lc_where hls hC hi hLI hS hl hc hs kk
  · refine lv_tableIn (tgt := 809) (off := 769) hx hb dL_law_40 (by decide) (by decide) (by decide) (by decide) ?_
    exact lc_mark hls hC hi hLI hS hl hc hs kk
  · refine lv_tableIn (tgt := 865) (off := 825) hx hb dL_law_40 (by decide) (by decide) (by decide) (by decide) ?_
    exact lc_carrier hls hC hi hLI hS hl hc hs kk
  · refine lv_tableIn (tgt := 890) (off := 850) hx hb dL_law_40 (by decide) (by decide) (by decide) (by decide) ?_
    exact lc_share hls hC hi hLI hS hl hc hs kk
  · refine lv_tableIn (tgt := 958) (off := 918) hx hb dL_law_40 (by decide) (by decide) (by decide) (by decide) ?_
    exact lc_count hls hC hi hLI hS hl hc hs kk
theorem lw_loop {p : Program} {l : Launch} {e : Env} {s : State} {m : MethodId} {below : List Frame} {meth : Method} {c : Code} {b L : Nat} {ys : Nat → Int} {D : va_G} {cA : Nat → ClassId} {sa : Nat → Nat} {o xo oa : Nat} {ad : Nat → Nat} (hls : l.stackTraces = false) (hC : LX p s m c b L ys D cA sa o oa ad) (hr : meth.sig.returnType = ret) (hlocks : meth.locks = false) : ∀ (n k : Nat) (H : Heap) (locs : List Loc) (ls : Array Slot), L ≤ 7 * k + n → 7 * k ≤ 448 → LI D cA sa s.heap.size o xo oa ad H → va_S (nw s) s.heap H locs → lv_has ls 7 [(4, .int (iI ((7 * k : Nat)))), (3, .ref oa), (2, .ref o), (1, .ref xo), (0, .ref b)] → W p l e room_1 s m #[Value.ref b] below meth c H locs (1000 + 430 * k) (10000 + 97000 * k) (lw_Z below #[Value.ref b] s) (F0 m 23 ls []) := by
  have hx := hC.1
  have hb := hC.2.1
  have hL : L ≤ 448 := hC.2.2.2.2.2.2.2.2.2.2.2.2.1
  intro n
  induction n with
  | zero =>
    intro k H locs ls h1 h2 hLI hS hl
    refine lw_round hls hC hLI hS h2 hl (fun h => absurd h (by omega)) (fun h => absurd h (by omega)) (fun _ => ?_) (fun h => absurd h (by omega))
    refine lv_iconst (v := 1) hx hb dL_law_1020 (by decide) ?_
    refine va_forget (fun q hq => hS.2.2 q hq) ?_
    refine W.widen (k := 601024) (n := 7293034) (by omega) (by omega) ?_
    exact lw_ret hx hb hr hlocks dL_law_1021
  | succ n ih =>
    intro k H locs ls h1 h2 hLI hS hl
    refine lw_round hls hC hLI hS h2 hl (fun h => by omega) (fun h => by omega) (fun _ => ?_) (fun h H1 locs1 ls1 w1 w2 w3 => ?_)
    · refine lv_iconst (v := 1) hx hb dL_law_1020 (by decide) ?_
      refine va_forget (fun q hq => hS.2.2 q hq) ?_
      refine W.widen (k := 601024) (n := 7293034) (by omega) (by omega) ?_
      exact lw_ret hx hb hr hlocks dL_law_1021
    · refine W.widen (k := 1000 + 430 * (k + 1)) (n := 10000 + 97000 * (k + 1)) (by omega) (by omega) ?_
      exact ih (k + 1) H1 locs1 ls1 (by omega) (by omega) w1 w2 (by rw [show 7 * (k + 1) = 7 * k + 7 by omega]; exact w3)
