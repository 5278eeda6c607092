set_option maxRecDepth 100000
set_option maxHeartbeats 4000000 in
theorem whole_start {p : Program} {e : Env} {s : State} {m : MethodId} {below : List Frame} {meth : Method} {c : Code} (l : Launch) (hls : l.stackTraces = false) {b L : Nat} {xs : Nat → Int32} (hL : L ≤ 448) (C0 : lw_At p s m meth c b L xs) : W p l e room_1 s m #[Value.ref b] below meth c s.heap [] 0 0 (lw_Z below #[Value.ref b] s) (entryFrame m ([Value.ref b] : List Value).toArray 7) := by
  obtain ⟨hx, hb, hr, hml, hown, htb, hX, hbl, hlocks, hgv⟩ := C0
  have hts : ∀ w ∈ lw_all, w.before #[Value.ref b] s = true := fun w hw => htb w (lw_all_tbl hw)
  have hown : s.vm.findClass RX0 = some m.cls := hown
  obtain ⟨D, cA, hK⟩ := st_K htb hgv
  obtain ⟨sa, hSX⟩ := st_S htb hgv
  have hTX := st_T htb hgv
  have hNc := st_N hgv
  have hl := lv_entry ([.ref b]) (n := 7) (Nat.le_of_ble_eq_true rfl)
  rw [lg_entry_eq]
  generalize (lg_sl ([.ref b]) ++ List.replicate (7 - (lg_sl ([.ref b])).length) Slot.unset).toArray = ls at hl ⊢
  have hl : lv_has ls 7 [(0, .ref b)] := hl
  have hS : va_S (nw s) s.heap s.heap [] := va_S.rf
  refine h_new hx hb hts in_X1 tyX1 tyX1_ok hown (hts _ q74) (hts _ q75) (hts _ q42) hK hS (ci := 1) rfl (fs := [.null, .null, .null, .null, .int (iI (0)), .null, .null]) (fun j hj => by match j, hj with | 0, _ => exact rfl | 1, _ => exact rfl | 2, _ => exact rfl | 3, _ => exact rfl | 4, _ => exact rfl | 5, _ => exact rfl | 6, _ => exact rfl | j + 7, hj => exact absurd hj (by omega)) (Nat.le_of_ble_eq_true rfl) (Nat.le_of_ble_eq_true rfl) dL_law_0 (fun z H hz0 hXz o1 z1 hS => ?_)
  refine lv_dup hx hb dL_law_3 rfl ?_
  refine rc_N (W.runI (As := []) (rest := [.ref z]) ⟨hx, hb, hml, hown, hts⟩ (cc_X1_init l D cA z H.size) (cwI 0 hts (lw_meth q78) rfl rfl rfl (hts _ q42) (hts _ q76) (hts _ q77) rfl (by decide +kernel) ⟨Nat.le_of_ble_eq_true rfl, Nat.le_of_ble_eq_true rfl⟩) (preS hK ⟨hXz, rfl⟩) rfl rfl hl.1 rfl (lv_room (Nat.le_of_ble_eq_true rfl)) dL_law_4 ⟨Nat.le_of_ble_eq_true rfl, Nat.le_of_ble_eq_true rfl⟩) hS (fun (q : Nat) _ h => by have h : q = z ∨ H.size ≤ q := h; unfold nw; rcases h with h | h <;> omega) (fun (q : Nat) h => by have h : q = z ∨ H.size ≤ q := h; unfold nw; rcases h with h | h <;> omega) (fun H1 locs1 hp hS hz1 hq1 => ?_)
  obtain ⟨l0, e0, l1, e1, l2, e2, l3, e3, q1, q2, h0, c1, c2, c3, c4, c5, c6, c7, c8, c9, c10, g0, g1, g2, g3, k1, k2, ho⟩ := hp
  have hW := cw_init (A := nw s) (sa := sa) h0 c1 c2 c3 c4 c5 c6 c7 c8 c9 c10 g0 g1 g2 g3 k1 k2 ho (by unfold nw; omega) (fun q h => by unfold nw; omega)
  have hF0 : FB (fun _ => 0) := fun _ => Nat.zero_le _
  have hN0 : NB (fun _ _ => 0) := fun _ _ => Nat.zero_le _
  have hlt := hW.lt (hF0 3) hN0
  refine lv_astore_n (lv' := [(1, .ref z), (0, .ref b)]) hx hb dL_law_7 rfl hl (by decide) rfl (fun ls hl => ?_)
  refine h_new hx hb hts in_X2 tyX2 tyX2_ok hown (hts _ q968) (hts _ q969) (hts _ q62) hK hS (ci := 0) rfl (fs := [.int (iI (0)), .int (iI (0)), .int (iI (0)), .int (iI (0)), .int (iI (0)), .int (iI (0)), .null, .null, .null, .null, .null, .null, .null, .null, .null, .null, .null, .null, .null, .null, .null, .null, .null, .null, .null, .null, .null, .null, .null, .null, .null, .null, .int (iI (0)), .int (iI (0)), .int (iI (0)), .int (iI (0)), .int (iI (0)), .null]) (fun j hj => by match j, hj with | 0, _ => exact rfl | 1, _ => exact rfl | 2, _ => exact rfl | 3, _ => exact rfl | 4, _ => exact rfl | 5, _ => exact rfl | 6, _ => exact rfl | 7, _ => exact rfl | 8, _ => exact rfl | 9, _ => exact rfl | 10, _ => exact rfl | 11, _ => exact rfl | 12, _ => exact rfl | 13, _ => exact rfl | 14, _ => exact rfl | 15, _ => exact rfl | 16, _ => exact rfl | 17, _ => exact rfl | 18, _ => exact rfl | 19, _ => exact rfl | 20, _ => exact rfl | 21, _ => exact rfl | 22, _ => exact rfl | 23, _ => exact rfl | 24, _ => exact rfl | 25, _ => exact rfl | 26, _ => exact rfl | 27, _ => exact rfl | 28, _ => exact rfl | 29, _ => exact rfl | 30, _ => exact rfl | 31, _ => exact rfl | 32, _ => exact rfl | 33, _ => exact rfl | 34, _ => exact rfl | 35, _ => exact rfl | 36, _ => exact rfl | 37, _ => exact rfl | j + 38, hj => exact absurd hj (by omega)) (Nat.le_of_ble_eq_true rfl) (Nat.le_of_ble_eq_true rfl) dL_law_8 (fun o H2 ho0 hXo o2 z2 hS => ?_)
  have hW := hW.keptL (hF0 3) hN0 (by omega) (fun k i hl => o2 _ (hlt k i hl))
  refine lv_dup hx hb dL_law_11 rfl ?_
  refine rc_N (W.runI (As := []) (rest := [.ref o]) ⟨hx, hb, hml, hown, hts⟩ (mm_init l D cA (fun q => o ≤ q) o H2.size) (cwI 0 hts (lw_meth q972) rfl rfl rfl (hts _ q62) (hts _ q970) (hts _ q971) rfl (by decide +kernel) ⟨Nat.le_of_ble_eq_true rfl, Nat.le_of_ble_eq_true rfl⟩) (preS hK ⟨hXo, Nat.le_refl _, rfl, fun q h => by show o ≤ q; omega⟩) rfl rfl hl.1 rfl (lv_room (Nat.le_of_ble_eq_true rfl)) dL_law_12 ⟨Nat.le_of_ble_eq_true rfl, Nat.le_of_ble_eq_true rfl⟩) hS (fun (q : Nat) _ h => by have h : o ≤ q := h; unfold nw; omega) (fun (q : Nat) h => by have h : o ≤ q := h; unfold nw; omega) (fun H3 locs3 hp hS hz3 hq3 => ?_)
  obtain ⟨adM, hM, hadM⟩ := hp
  have hW := hW.keptL (hF0 3) hN0 hz3 (fun k i hl => hq3 _ (by have := hlt k i hl; omega) (fun h => by have h : o ≤ _ := h; have := hlt k i hl; omega))
  refine lv_astore_n (lv' := [(2, .ref o), (1, .ref z), (0, .ref b)]) hx hb dL_law_15 rfl hl (by decide) rfl (fun ls hl => ?_)
  refine lv_iconst (v := iI (1)) hx hb dL_law_16 rfl ?_
  refine h_newaJ hx hb (hts _ q1267) hK hS 1 rfl (by decide) (Nat.le_of_ble_eq_true rfl) (Nat.le_of_ble_eq_true rfl) dL_law_17 (fun oa H4 hoa0 hO o4 z4 hS => ?_)
  have hW := hW.keptL (hF0 3) hN0 (by omega) (fun k i hl => o4 _ (by have := hlt k i hl; omega))
  have hM := hM.own
  have hMl : ∀ q, AMs o adM q → q < H3.size := fun q h => hM.lt h
  have hM := hM.kept (fun q h => o4 q (hMl q h))
  have hMo : ∀ q, AMs o adM q → o ≤ q := fun q h => by rcases h with rfl | ⟨k, hk, rfl⟩; exact Nat.le_refl _; have := hadM k hk; omega
  refine lv_astore_n (lv' := [(3, .ref oa), (2, .ref o), (1, .ref z), (0, .ref b)]) hx hb dL_law_19 rfl hl (by decide) rfl (fun ls hl => ?_)
  refine lv_iconst (v := iI (0)) hx hb dL_law_20 rfl ?_
  refine ri_top (b := ((7 * 0 : Nat) : Int)) (by decide) ?_
  refine lv_istore (lv' := [(4, .int (iI ((7 * 0 : Nat)))), (3, .ref oa), (2, .ref o), (1, .ref z), (0, .ref b)]) hx hb dL_law_21 hl (by decide) rfl (fun ls hl => ?_)
  have hW := hW.sub (B := ACs s.heap.size o oa adM) (fun k i hl => ⟨hW.2.1 k i hl, fun h => by have := hMo _ h; have := hlt k i hl; omega, by have := hlt k i hl; omega⟩) (fun q h => ⟨by omega, fun h1 => by have := hMl _ h1; omega, by omega⟩)
  have hX : va_X b L (fun j => iI ((fun j => (xs j).toInt) j)) s s.heap := by rw [show (fun j => iI ((fun j => (xs j).toInt) j)) = xs from funext (fun j => iI_toInt_self _)]; exact hX
  have hoM : ¬ AMs o adM oa := fun h => by have := hMl _ h; omega
  have hNM : NB N0 := fun k j => by unfold N0; split; (rename_i q; subst q; exact Nat.le_of_ble_eq_true rfl); exact Nat.zero_le _
  have hGM : GB G0 := fun k => by unfold G0; split; (rename_i q; subst q; exact Nat.le_of_ble_eq_true rfl); exact Nat.zero_le _
  have hC : LX p s m c b L (fun j => (xs j).toInt) D cA sa o oa adM := ⟨hx, hb, hml, hown, hts, hK, hSX, hTX, hNc, hX, hbl, fun j => inR_toInt _, hL, hoM, (by unfold nw; omega), fun q h => by have := hMo q h; unfold nw; omega⟩
  refine W.widen (k := 1000 + 430 * 0) (n := 10000 + 97000 * 0) (by omega) (by omega) ?_
  exact lw_loop hls hC hr hlocks L 0 H4 _ ls (by omega) (by omega) ⟨_, _, _, _, _, _, _, _, _, hM, hW, hO, rfl, op_init, hNM, hF0, hGM, fun _ _ => Nat.zero_le _⟩ hS hl
