set_option maxRecDepth 100000
set_option maxHeartbeats 4000000 in
set_option maxRecDepth 100000 in
theorem mm_share (l : Launch) (D : va_G) (cA : Nat → ClassId) (A : Nat → Prop) (o : Nat) (ad : Nat → Nat) (F G : Nat → Nat) (N X : Nat → Nat → Nat) (Z : Nat → Int) (K : Nat) (hKb : K ≤ 1000000) (hF : FB F) (hG : GB G) (hN : NB N) (hX : XB X) (hZ : ZB K Z) (cv sum : Nat) (hc5 : cv < F 5) (hsum : sum ≤ 10000000) : Met l yX2_share (ws_ yX2_share cX2_share 12 (some .int)) ({ frames := 1, cells := 0, slots := 0, locals := 30 }) (Pk D cA [.ref o, .int (iI (cv)), .int (iI (sum))] (MW D cA A o ad F G N X Z)) (Qi (fun z H' => z = shV F N cv sum ∧ MW D cA A o ad (va_up F 0 0) G N X Z H') A) 0 0 (A) := by
  refine Met.ofW (cc := cX2_share) (maxL := 12) (ret := (some .int)) (by decide) rfl ?_
  intro p e s m args below meth c s₁ B hml hv
  obtain ⟨rfl, hK, hW⟩ := hv
  have hx := B.exec
  have hb := B.bytes
  have hr := B.returns
  have hts := atoms_spec (ws := ws_ yX2_share cX2_share 12 (some .int)) B.pre
  have hts : ∀ w ∈ lw_all, w.before _ s = true := fun w h => hts w (List.mem_cons_of_mem _ h)
  have hown : s.vm.findClass RX2 = some m.cls := findClass_of_methodNamed B.named
  have hlocks := B.notSynchronized
  have hl := lv_entry ([.ref o, .int (iI (cv)), .int (iI (sum))]) (n := 12) (Nat.le_of_ble_eq_true rfl)
  rw [lg_entry_eq]
  generalize (lg_sl ([.ref o, .int (iI (cv)), .int (iI (sum))]) ++ List.replicate (12 - (lg_sl ([.ref o, .int (iI (cv)), .int (iI (sum))])).length) Slot.unset).toArray = ls at hl ⊢
  have hl : lv_has ls 12 [(0, .ref o), (1, .int (iI (cv))), (2, .int (iI (sum)))] := hl
  have hS : va_S A s.heap s.heap [] := va_S.rf
  have hF5 : F 5 ≤ 40 := hF 5
  have hds := dsN_pos (F := F) (N := N) (by omega)
  have hds2 := dsN_le hF hN
  have hlft := left_le (F := F) (N := N) sum hds
  have hdc := mul_31 (b := dzN F N cv) hsum (dz_le hN cv)
  have hdzc := dz_le (F := F) hN cv
  have hodv := Nat.div_le_self (sum * dzN F N cv) (dsN F N)
  refine lv_aload_n hx hb dX2_share_0 rfl (lv_at hl 0 rfl) ?_
  refine lv_iconst (v := iI (0)) hx hb dX2_share_1 rfl ?_
  refine m_put hx hb hts hown hK hW hS 0 (by decide) q974 rfl rfl rfl (0) rfl dX2_share_2 (fun H locs hW hS => ?_)
  have hF : FB (va_up (F) 0 (0)) := hF.up (by show 0 ≤ 2; omega)
  have e1 : va_up F 0 0 1 = F 1 := rfl
  have e2 : va_up F 0 0 2 = F 2 := rfl
  have e3 : va_up F 0 0 3 = F 3 := rfl
  have e4 : va_up F 0 0 4 = F 4 := rfl
  have e5 : va_up F 0 0 5 = F 5 := rfl
  refine lv_iload_n hx hb dX2_share_5 rfl (lv_at hl 1 rfl) ?_
  refine ri_if_lt (tgt := 17) hx hb (by unfold inR; omega) dX2_share_6 (by decide) (fun h1 => ?_) (fun h1 => ?_)
  · skip
    exfalso; omega
  · skip
    refine lv_iload_n hx hb dX2_share_9 rfl (lv_at hl 1 rfl) ?_
    refine lv_aload_n hx hb dX2_share_10 rfl (lv_at hl 0 rfl) ?_
    refine m_get hx hb hts hown hK hW 5 (by decide) q979 rfl (v := .int (iI (F 5))) rfl dX2_share_11 ?_
    have b2 : F 5 ≤ 40 := hF 5
    refine ri_icmp_lt (tgt := 22) hx hb (by unfold inR; omega) (by unfold inR; omega) dX2_share_14 (by decide) (fun h3 => ?_) (fun h3 => ?_)
    · skip
      refine lv_iload_n hx hb dX2_share_22 rfl (lv_at hl 2 rfl) ?_
      refine ri_if_lt (tgt := 32) hx hb (by unfold inR; omega) dX2_share_23 (by decide) (fun h4 => ?_) (fun h4 => ?_)
      · skip
        exfalso; omega
      · skip
        refine lv_iload_n hx hb dX2_share_26 rfl (lv_at hl 2 rfl) ?_
        refine lv_ldc (v := iI (10000000)) hx hb hown (show (Cond.constant RX2 223 (iI (10000000))).before _ s = true from hts _ q1262) dX2_share_27 ?_
        refine ri_icmp_le (tgt := 39) hx hb (by unfold inR; omega) (by unfold inR; omega) dX2_share_29 (by decide) (fun h5 => ?_) (fun h5 => ?_)
        · skip
          refine lv_iconst (v := iI (0)) hx hb dX2_share_39 rfl ?_
          refine lv_istore_n (lv' := [(3, .int (iI (0))), (0, .ref o), (1, .int (iI (cv))), (2, .int (iI (sum)))]) hx hb dX2_share_40 rfl hl (by decide) rfl (fun ls hl => ?_)
          refine lv_iconst (v := iI (0)) hx hb dX2_share_41 rfl ?_
          refine lv_istore (lv' := [(4, .int (iI (0))), (3, .int (iI (0))), (0, .ref o), (1, .int (iI (cv))), (2, .int (iI (sum)))]) hx hb dX2_share_42 hl (by decide) rfl (fun ls hl => ?_)
          have lp44 : ∀ (fuel : Nat) (i : Nat) (hi : i ≤ F 5), F 5 - i < fuel → ∀ (H : Heap) (locs : List Loc) (ls : Array Slot), MW D cA A o ad (va_up (F) 0 (0)) G N X Z H → va_S A s.heap H locs → lv_has ls 12 [(4, .int (iI (i))), (3, .int (iI (smB (N 12) i))), (0, .ref o), (1, .int (iI (cv))), (2, .int (iI (sum)))] → W p l e (headSpec (ws_ yX2_share cX2_share 12 (some .int)) ({ frames := 1, cells := 0, slots := 0, locals := 30 })).room s m ([.ref o, .int (iI (cv)), .int (iI (sum))] : List Value).toArray below meth c H locs 0 0 (MQ below (Qi (fun z H' => z = shV F N cv sum ∧ MW D cA A o ad (va_up F 0 0) G N X Z H') A) ([.ref o, .int (iI (cv)), .int (iI (sum))] : List Value).toArray s 0 0 (A)) (F0 m 44 ls []) := by
            intro fuel
            induction fuel with
            | zero => intro i hi hm; exact absurd hm (Nat.not_lt_zero _)
            | succ fuel ih44 =>
              intro i hi hm44 H locs ls hW hS hl
              have hs1 := smB_le (N 12) 31 (fun j => hN 12 j) i
              refine lv_iload hx hb dX2_share_44 (lv_at hl 0 rfl) ?_
              refine lv_aload_n hx hb dX2_share_46 rfl (lv_at hl 2 rfl) ?_
              refine m_get hx hb hts hown hK hW 5 (by decide) q979 rfl (v := .int (iI (F 5))) rfl dX2_share_47 ?_
              refine ri_icmp_ge (tgt := 69) hx hb (by unfold inR; omega) (by unfold inR; omega) dX2_share_50 (by decide) (fun h6 => ?_) (fun h6 => ?_)
              · skip
                have hi5 : i = F 5 := by omega
                rw [hi5] at hl
                have hs1 := smB_le (N 12) 31 (fun j => hN 12 j) (F 5)
                refine lv_iload_n hx hb dX2_share_69 rfl (lv_at hl 1 rfl) ?_
                refine ri_if_ne (tgt := 77) hx hb (by unfold inR; omega) dX2_share_70 (by decide) (fun h7 => ?_) (fun h7 => ?_)
                · skip
                  refine lv_iconst (v := iI (0)) hx hb dX2_share_77 rfl ?_
                  refine lv_istore (lv' := [(4, .int (iI (0))), (3, .int (iI (smB (N 12) (F 5)))), (0, .ref o), (1, .int (iI (cv))), (2, .int (iI (sum)))]) hx hb dX2_share_78 hl (by decide) rfl (fun ls hl => ?_)
                  refine lv_iload hx hb dX2_share_80 (lv_at hl 0 rfl) ?_
                  refine ri_if_eq (tgt := 90) hx hb (by unfold inR; omega) dX2_share_82 (by decide) (fun h8 => ?_) (fun h8 => ?_)
                  · skip
                    have e3 : smB (N 12) (F 5) = dsN F N := by unfold dsN; rw [if_neg (by omega)]
                    have hl : lv_has ls 12 [(4, .int (iI (0))), (3, .int (iI ((dsN F N : Nat)))), (0, .ref o), (1, .int (iI (cv))), (2, .int (iI (sum)))] := by rw [← e3]; exact hl
                    refine lv_iload_n hx hb dX2_share_90 rfl (lv_at hl 4 rfl) ?_
                    refine lv_istore (lv' := [(5, .int (iI (sum))), (4, .int (iI (0))), (3, .int (iI ((dsN F N : Nat)))), (0, .ref o), (1, .int (iI (cv))), (2, .int (iI (sum)))]) hx hb dX2_share_91 hl (by decide) rfl (fun ls hl => ?_)
                    refine lv_iconst (v := iI (0)) hx hb dX2_share_93 rfl ?_
                    refine lv_istore (lv' := [(6, .int (iI (0))), (5, .int (iI (sum))), (4, .int (iI (0))), (3, .int (iI ((dsN F N : Nat)))), (0, .ref o), (1, .int (iI (cv))), (2, .int (iI (sum)))]) hx hb dX2_share_94 hl (by decide) rfl (fun ls hl => ?_)
                    have lp96 : ∀ (fuel : Nat) (i : Nat) (hi : i ≤ F 5), F 5 - i < fuel → ∀ (H : Heap) (locs : List Loc) (ls : Array Slot), MW D cA A o ad (va_up (F) 0 (0)) G N X Z H → va_S A s.heap H locs → lv_has ls 12 [(6, .int (iI (i))), (5, .int (iI ((sum : Int) - (smB (fun i => sum * dzN F N i / dsN F N) i : Nat)))), (4, .int (iI (0))), (3, .int (iI ((dsN F N : Nat)))), (0, .ref o), (1, .int (iI (cv))), (2, .int (iI (sum)))] → W p l e (headSpec (ws_ yX2_share cX2_share 12 (some .int)) ({ frames := 1, cells := 0, slots := 0, locals := 30 })).room s m ([.ref o, .int (iI (cv)), .int (iI (sum))] : List Value).toArray below meth c H locs 0 0 (MQ below (Qi (fun z H' => z = shV F N cv sum ∧ MW D cA A o ad (va_up F 0 0) G N X Z H') A) ([.ref o, .int (iI (cv)), .int (iI (sum))] : List Value).toArray s 0 0 (A)) (F0 m 96 ls []) := by
                      intro fuel
                      induction fuel with
                      | zero => intro i hi hm; exact absurd hm (Nat.not_lt_zero _)
                      | succ fuel ih96 =>
                        intro i hi hm96 H locs ls hW hS hl
                        have hdzi := dz_le (F := F) hN i
                        have hd1 := mul_31 (b := dzN F N i) hsum (dz_le hN i)
                        refine lv_iload hx hb dX2_share_96 (lv_at hl 0 rfl) ?_
                        refine lv_aload_n hx hb dX2_share_98 rfl (lv_at hl 4 rfl) ?_
                        refine m_get hx hb hts hown hK hW 5 (by decide) q979 rfl (v := .int (iI (F 5))) rfl dX2_share_99 ?_
                        refine ri_icmp_ge (tgt := 140) hx hb (by unfold inR; omega) (by unfold inR; omega) dX2_share_102 (by decide) (fun h9 => ?_) (fun h9 => ?_)
                        · skip
                          have hi5 : i = F 5 := by omega
                          rw [hi5] at hl
                          refine lv_iload_n hx hb dX2_share_140 rfl (lv_at hl 6 rfl) ?_
                          refine rl_i2l hx hb (sum) (by omega) (by omega) dX2_share_141 ?_
                          refine lv_iload hx hb dX2_share_142 (lv_at hl 2 rfl) ?_
                          refine ri_if_eq (tgt := 151) hx hb (by unfold inR; omega) dX2_share_144 (by decide) (fun h10 => ?_) (fun h10 => ?_)
                          · skip
                            refine lv_aload_n hx hb dX2_share_151 rfl (lv_at hl 4 rfl) ?_
                            refine m_get hx hb hts hown hK hW 12 (by decide) q986 rfl (v := .ref (ad 12)) rfl dX2_share_152 ?_
                            refine lv_iload_n hx hb dX2_share_155 rfl (lv_at hl 5 rfl) ?_
                            refine h_iald hx hb hK hW.a12 (cv) (by omega) (by omega) (by decide) dX2_share_156 ?_
                            have b11 : N 12 (cv) ≤ 31 := hN 12 (cv)
                            refine rl_i2l hx hb (dzN F N cv) (by unfold dzN; first | rw [if_pos (by omega)]; rfl | rw [if_neg (by omega)]) (by omega) dX2_share_157 ?_
                            refine rl_mul hx hb dX2_share_158 ?_
                            refine lv_lstore (lv' := [(6, .long (lN ((sum) * (dzN F N cv)))), (5, .int (iI ((sum : Int) - (smB (fun i => sum * dzN F N i / dsN F N) (F 5) : Nat)))), (4, .int (iI (0))), (3, .int (iI ((dsN F N : Nat)))), (0, .ref o), (1, .int (iI (cv))), (2, .int (iI (sum)))]) hx hb dX2_share_159 hl (by decide) rfl (fun ls hl => ?_)
                            refine lv_iconst (v := iI (0)) hx hb dX2_share_161 rfl ?_
                            refine lv_istore (lv' := [(8, .int (iI (0))), (6, .long (lN ((sum) * (dzN F N cv)))), (5, .int (iI ((sum : Int) - (smB (fun i => sum * dzN F N i / dsN F N) (F 5) : Nat)))), (4, .int (iI (0))), (3, .int (iI ((dsN F N : Nat)))), (0, .ref o), (1, .int (iI (cv))), (2, .int (iI (sum)))]) hx hb dX2_share_162 hl (by decide) rfl (fun ls hl => ?_)
                            refine lv_iconst (v := iI (0)) hx hb dX2_share_164 rfl ?_
                            refine lv_istore (lv' := [(9, .int (iI (0))), (8, .int (iI (0))), (6, .long (lN ((sum) * (dzN F N cv)))), (5, .int (iI ((sum : Int) - (smB (fun i => sum * dzN F N i / dsN F N) (F 5) : Nat)))), (4, .int (iI (0))), (3, .int (iI ((dsN F N : Nat)))), (0, .ref o), (1, .int (iI (cv))), (2, .int (iI (sum)))]) hx hb dX2_share_165 hl (by decide) rfl (fun ls hl => ?_)
                            have lp167 : ∀ (fuel : Nat) (i : Nat) (hi : i ≤ F 5), F 5 - i < fuel → ∀ (H : Heap) (locs : List Loc) (ls : Array Slot), MW D cA A o ad (va_up (F) 0 (0)) G N X Z H → va_S A s.heap H locs → lv_has ls 12 [(9, .int (iI (i))), (8, .int (iI (cntB (shP F N cv sum) i))), (6, .long (lN ((sum) * (dzN F N cv)))), (5, .int (iI ((sum : Int) - (smB (fun i => sum * dzN F N i / dsN F N) (F 5) : Nat)))), (4, .int (iI (0))), (3, .int (iI ((dsN F N : Nat)))), (0, .ref o), (1, .int (iI (cv))), (2, .int (iI (sum)))] → W p l e (headSpec (ws_ yX2_share cX2_share 12 (some .int)) ({ frames := 1, cells := 0, slots := 0, locals := 30 })).room s m ([.ref o, .int (iI (cv)), .int (iI (sum))] : List Value).toArray below meth c H locs 0 0 (MQ below (Qi (fun z H' => z = shV F N cv sum ∧ MW D cA A o ad (va_up F 0 0) G N X Z H') A) ([.ref o, .int (iI (cv)), .int (iI (sum))] : List Value).toArray s 0 0 (A)) (F0 m 167 ls []) := by
                              intro fuel
                              induction fuel with
                              | zero => intro i hi hm; exact absurd hm (Nat.not_lt_zero _)
                              | succ fuel ih167 =>
                                intro i hi hm167 H locs ls hW hS hl
                                have hdzi := dz_le (F := F) hN i
                                have hd1 := mul_31 (b := dzN F N i) hsum (dz_le hN i)
                                have hc1 := cntB_le (shP F N cv sum) i
                                have hr1 := Nat.mod_lt (sum * dzN F N i) hds
                                have hr2 := Nat.mod_lt (sum * dzN F N cv) hds
                                refine lv_iload hx hb dX2_share_167 (lv_at hl 0 rfl) ?_
                                refine lv_aload_n hx hb dX2_share_169 rfl (lv_at hl 6 rfl) ?_
                                refine m_get hx hb hts hown hK hW 5 (by decide) q979 rfl (v := .int (iI (F 5))) rfl dX2_share_170 ?_
                                refine ri_icmp_ge (tgt := 238) hx hb (by unfold inR; omega) (by unfold inR; omega) dX2_share_173 (by decide) (fun h12 => ?_) (fun h12 => ?_)
                                · skip
                                  have hi6 : i = F 5 := by omega
                                  rw [hi6] at hl
                                  have hc2 := cntB_le (shP F N cv sum) (F 5)
                                  refine lv_lload hx hb dX2_share_238 (lv_at hl 2 rfl) ?_
                                  refine lv_iload_n hx hb dX2_share_240 rfl (lv_at hl 5 rfl) ?_
                                  refine rl_i2l hx hb (dsN F N) (by omega) (by omega) dX2_share_241 ?_
                                  refine rl_div hx hb (by omega) (by omega) (by omega) dX2_share_242 ?_
                                  refine rl_l2i hx hb dX2_share_243 ?_
                                  refine lv_iload hx hb dX2_share_244 (lv_at hl 1 rfl) ?_
                                  refine lv_iload hx hb dX2_share_246 (lv_at hl 3 rfl) ?_
                                  refine ri_icmp_ge (tgt := 255) hx hb (by unfold inR; omega) (by unfold inR; omega) dX2_share_248 (by decide) (fun h13 => ?_) (fun h13 => ?_)
                                  · skip
                                    refine lv_iconst (v := iI (0)) hx hb dX2_share_255 rfl ?_
                                    refine ri_iadd hx hb dX2_share_256 ?_
                                    exact W.iret hx hb hr (fun t ht hWm => ⟨⟨_, rfl, by rw [ht]; exact ⟨by unfold shV; first | (rw [if_pos (by omega)]) | (rw [if_neg (by omega)]), hW⟩⟩, hS.F ht⟩) hS.2.2 dX2_share_257
                                  · skip
                                    refine lv_iconst (v := iI (1)) hx hb dX2_share_251 rfl ?_
                                    refine lv_goto (tgt := 256) hx hb dX2_share_252 (by decide) ?_
                                    refine ri_iadd hx hb dX2_share_256 ?_
                                    exact W.iret hx hb hr (fun t ht hWm => ⟨⟨_, rfl, by rw [ht]; exact ⟨by unfold shV; first | (rw [if_pos (by omega)]) | (rw [if_neg (by omega)]), hW⟩⟩, hS.F ht⟩) hS.2.2 dX2_share_257
                                · skip
                                  refine lv_iload_n hx hb dX2_share_176 rfl (lv_at hl 8 rfl) ?_
                                  refine rl_i2l hx hb (sum) (by omega) (by omega) dX2_share_177 ?_
                                  refine lv_iload hx hb dX2_share_178 (lv_at hl 4 rfl) ?_
                                  refine ri_if_eq (tgt := 187) hx hb (by unfold inR; omega) dX2_share_180 (by decide) (fun h14 => ?_) (fun h14 => ?_)
                                  · skip
                                    refine lv_aload_n hx hb dX2_share_187 rfl (lv_at hl 6 rfl) ?_
                                    refine m_get hx hb hts hown hK hW 12 (by decide) q986 rfl (v := .ref (ad 12)) rfl dX2_share_188 ?_
                                    refine lv_iload hx hb dX2_share_191 (lv_at hl 0 rfl) ?_
                                    refine h_iald hx hb hK hW.a12 (i) (by omega) (by omega) (by decide) dX2_share_193 ?_
                                    have b15 : N 12 (i) ≤ 31 := hN 12 (i)
                                    refine rl_i2l hx hb (dzN F N i) (by unfold dzN; first | rw [if_pos (by omega)]; rfl | rw [if_neg (by omega)]) (by omega) dX2_share_194 ?_
                                    refine rl_mul hx hb dX2_share_195 ?_
                                    refine lv_iload_n hx hb dX2_share_196 rfl (lv_at hl 5 rfl) ?_
                                    refine rl_i2l hx hb (dsN F N) (by omega) (by omega) dX2_share_197 ?_
                                    refine rl_rem hx hb (by omega) (by omega) (by omega) dX2_share_198 ?_
                                    refine lv_lstore (lv' := [(10, .long (lN (((sum) * (dzN F N i)) % (dsN F N)))), (9, .int (iI (i))), (8, .int (iI (cntB (shP F N cv sum) i))), (6, .long (lN ((sum) * (dzN F N cv)))), (5, .int (iI ((sum : Int) - (smB (fun i => sum * dzN F N i / dsN F N) (F 5) : Nat)))), (4, .int (iI (0))), (3, .int (iI ((dsN F N : Nat)))), (0, .ref o), (1, .int (iI (cv))), (2, .int (iI (sum)))]) hx hb dX2_share_199 hl (by decide) rfl (fun ls hl => ?_)
                                    refine lv_lload hx hb dX2_share_201 (lv_at hl 0 rfl) ?_
                                    refine lv_lload hx hb dX2_share_203 (lv_at hl 3 rfl) ?_
                                    refine lv_iload_n hx hb dX2_share_205 rfl (lv_at hl 6 rfl) ?_
                                    refine rl_i2l hx hb (dsN F N) (by omega) (by omega) dX2_share_206 ?_
                                    refine rl_rem hx hb (by omega) (by omega) (by omega) dX2_share_207 ?_
                                    refine rl_cmp hx hb (by omega) (by omega) dX2_share_208 ?_
                                    rcases Nat.lt_trichotomy ((((sum) * (dzN F N i)) % (dsN F N))) ((((sum) * (dzN F N cv)) % (dsN F N))) with h3 | h3 | h3
                                    · refine ri_top (b := -1) (by rw [if_neg (by omega), if_neg (by omega)]) ?_
                                      refine ri_if_gt (tgt := 229) hx hb (by unfold inR; omega) dX2_share_209 (by decide) (fun h16 => ?_) (fun h16 => ?_)
                                      · skip
                                        exfalso; omega
                                      · skip
                                        refine lv_lload hx hb dX2_share_212 (lv_at hl 0 rfl) ?_
                                        refine lv_lload hx hb dX2_share_214 (lv_at hl 3 rfl) ?_
                                        refine lv_iload_n hx hb dX2_share_216 rfl (lv_at hl 6 rfl) ?_
                                        refine rl_i2l hx hb (dsN F N) (by omega) (by omega) dX2_share_217 ?_
                                        refine rl_rem hx hb (by omega) (by omega) (by omega) dX2_share_218 ?_
                                        refine rl_cmp hx hb (by omega) (by omega) dX2_share_219 ?_
                                        rcases Nat.lt_trichotomy ((((sum) * (dzN F N i)) % (dsN F N))) ((((sum) * (dzN F N cv)) % (dsN F N))) with h3 | h3 | h3
                                        · refine ri_top (b := -1) (by rw [if_neg (by omega), if_neg (by omega)]) ?_
                                          refine ri_if_ne (tgt := 232) hx hb (by unfold inR; omega) dX2_share_220 (by decide) (fun h17 => ?_) (fun h17 => ?_)
                                          · skip
                                            have e8 : cntB (shP F N cv sum) (i + 1) = cntB (shP F N cv sum) i := by rw [cntB, if_neg (shP_no (by omega)), Nat.add_zero]
                                            have hl : lv_has ls 12 [(10, .long (lN (((sum) * (dzN F N i)) % (dsN F N)))), (9, .int (iI (i))), (8, .int (iI ((cntB (shP F N cv sum) (i + 1) : Nat)))), (6, .long (lN ((sum) * (dzN F N cv)))), (5, .int (iI ((sum : Int) - (smB (fun i => sum * dzN F N i / dsN F N) (F 5) : Nat)))), (4, .int (iI (0))), (3, .int (iI ((dsN F N : Nat)))), (0, .ref o), (1, .int (iI (cv))), (2, .int (iI (sum)))] := by rw [e8]; exact hl
                                            refine lv_iinc (v := iI ((i + 1 : Nat))) (lv' := [(9, .int (iI ((i + 1 : Nat)))), (10, .long (lN (((sum) * (dzN F N i)) % (dsN F N)))), (8, .int (iI ((cntB (shP F N cv sum) (i + 1) : Nat)))), (6, .long (lN ((sum) * (dzN F N cv)))), (5, .int (iI ((sum : Int) - (smB (fun i => sum * dzN F N i / dsN F N) (F 5) : Nat)))), (4, .int (iI (0))), (3, .int (iI ((dsN F N : Nat)))), (0, .ref o), (1, .int (iI (cv))), (2, .int (iI (sum)))]) hx hb dX2_share_232 hl (k := 1) rfl (iI_succ _) (by decide) rfl (fun ls hl => ?_)
                                            refine lv_goto (tgt := 167) hx hb dX2_share_235 (by decide) ?_
                                            exact ih167 (i + 1) (by omega) (by omega) _ _ _ hW hS (lv_sub hl [0, 2, 3, 4, 5, 6, 7, 8, 9] rfl)
                                          · skip
                                            exfalso; omega
                                        · refine ri_top (b := 0) (by rw [if_neg (by omega), if_pos (by omega)]) ?_
                                          refine ri_if_ne (tgt := 232) hx hb (by unfold inR; omega) dX2_share_220 (by decide) (fun h18 => ?_) (fun h18 => ?_)
                                          · skip
                                            exfalso; omega
                                          · skip
                                            refine lv_iload hx hb dX2_share_223 (lv_at hl 1 rfl) ?_
                                            refine lv_iload_n hx hb dX2_share_225 rfl (lv_at hl 8 rfl) ?_
                                            refine ri_icmp_ge (tgt := 232) hx hb (by unfold inR; omega) (by unfold inR; omega) dX2_share_226 (by decide) (fun h19 => ?_) (fun h19 => ?_)
                                            · skip
                                              have e8 : cntB (shP F N cv sum) (i + 1) = cntB (shP F N cv sum) i := by rw [cntB, if_neg (shP_no (by omega)), Nat.add_zero]
                                              have hl : lv_has ls 12 [(10, .long (lN (((sum) * (dzN F N i)) % (dsN F N)))), (9, .int (iI (i))), (8, .int (iI ((cntB (shP F N cv sum) (i + 1) : Nat)))), (6, .long (lN ((sum) * (dzN F N cv)))), (5, .int (iI ((sum : Int) - (smB (fun i => sum * dzN F N i / dsN F N) (F 5) : Nat)))), (4, .int (iI (0))), (3, .int (iI ((dsN F N : Nat)))), (0, .ref o), (1, .int (iI (cv))), (2, .int (iI (sum)))] := by rw [e8]; exact hl
                                              refine lv_iinc (v := iI ((i + 1 : Nat))) (lv' := [(9, .int (iI ((i + 1 : Nat)))), (10, .long (lN (((sum) * (dzN F N i)) % (dsN F N)))), (8, .int (iI ((cntB (shP F N cv sum) (i + 1) : Nat)))), (6, .long (lN ((sum) * (dzN F N cv)))), (5, .int (iI ((sum : Int) - (smB (fun i => sum * dzN F N i / dsN F N) (F 5) : Nat)))), (4, .int (iI (0))), (3, .int (iI ((dsN F N : Nat)))), (0, .ref o), (1, .int (iI (cv))), (2, .int (iI (sum)))]) hx hb dX2_share_232 hl (k := 1) rfl (iI_succ _) (by decide) rfl (fun ls hl => ?_)
                                              refine lv_goto (tgt := 167) hx hb dX2_share_235 (by decide) ?_
                                              exact ih167 (i + 1) (by omega) (by omega) _ _ _ hW hS (lv_sub hl [0, 2, 3, 4, 5, 6, 7, 8, 9] rfl)
                                            · skip
                                              refine lv_iinc (v := iI ((cntB (shP F N cv sum) (i + 1) : Nat))) (lv' := [(8, .int (iI ((cntB (shP F N cv sum) (i + 1) : Nat)))), (10, .long (lN (((sum) * (dzN F N i)) % (dsN F N)))), (9, .int (iI (i))), (6, .long (lN ((sum) * (dzN F N cv)))), (5, .int (iI ((sum : Int) - (smB (fun i => sum * dzN F N i / dsN F N) (F 5) : Nat)))), (4, .int (iI (0))), (3, .int (iI ((dsN F N : Nat)))), (0, .ref o), (1, .int (iI (cv))), (2, .int (iI (sum)))]) hx hb dX2_share_229 hl (k := 2) rfl (by rw [← cnt_1 (shP_yes (by omega))]; exact iI_add _ _) (by decide) rfl (fun ls hl => ?_)
                                              refine lv_iinc (v := iI ((i + 1 : Nat))) (lv' := [(9, .int (iI ((i + 1 : Nat)))), (8, .int (iI ((cntB (shP F N cv sum) (i + 1) : Nat)))), (10, .long (lN (((sum) * (dzN F N i)) % (dsN F N)))), (6, .long (lN ((sum) * (dzN F N cv)))), (5, .int (iI ((sum : Int) - (smB (fun i => sum * dzN F N i / dsN F N) (F 5) : Nat)))), (4, .int (iI (0))), (3, .int (iI ((dsN F N : Nat)))), (0, .ref o), (1, .int (iI (cv))), (2, .int (iI (sum)))]) hx hb dX2_share_232 hl (k := 2) rfl (iI_succ _) (by decide) rfl (fun ls hl => ?_)
                                              refine lv_goto (tgt := 167) hx hb dX2_share_235 (by decide) ?_
                                              exact ih167 (i + 1) (by omega) (by omega) _ _ _ hW hS (lv_sub hl [0, 1, 3, 4, 5, 6, 7, 8, 9] rfl)
                                        · refine ri_top (b := 1) (if_pos h3) ?_
                                          refine ri_if_ne (tgt := 232) hx hb (by unfold inR; omega) dX2_share_220 (by decide) (fun h20 => ?_) (fun h20 => ?_)
                                          · skip
                                            have e8 : cntB (shP F N cv sum) (i + 1) = cntB (shP F N cv sum) i := by rw [cntB, if_neg (shP_no (by omega)), Nat.add_zero]
                                            have hl : lv_has ls 12 [(10, .long (lN (((sum) * (dzN F N i)) % (dsN F N)))), (9, .int (iI (i))), (8, .int (iI ((cntB (shP F N cv sum) (i + 1) : Nat)))), (6, .long (lN ((sum) * (dzN F N cv)))), (5, .int (iI ((sum : Int) - (smB (fun i => sum * dzN F N i / dsN F N) (F 5) : Nat)))), (4, .int (iI (0))), (3, .int (iI ((dsN F N : Nat)))), (0, .ref o), (1, .int (iI (cv))), (2, .int (iI (sum)))] := by rw [e8]; exact hl
                                            refine lv_iinc (v := iI ((i + 1 : Nat))) (lv' := [(9, .int (iI ((i + 1 : Nat)))), (10, .long (lN (((sum) * (dzN F N i)) % (dsN F N)))), (8, .int (iI ((cntB (shP F N cv sum) (i + 1) : Nat)))), (6, .long (lN ((sum) * (dzN F N cv)))), (5, .int (iI ((sum : Int) - (smB (fun i => sum * dzN F N i / dsN F N) (F 5) : Nat)))), (4, .int (iI (0))), (3, .int (iI ((dsN F N : Nat)))), (0, .ref o), (1, .int (iI (cv))), (2, .int (iI (sum)))]) hx hb dX2_share_232 hl (k := 1) rfl (iI_succ _) (by decide) rfl (fun ls hl => ?_)
                                            refine lv_goto (tgt := 167) hx hb dX2_share_235 (by decide) ?_
                                            exact ih167 (i + 1) (by omega) (by omega) _ _ _ hW hS (lv_sub hl [0, 2, 3, 4, 5, 6, 7, 8, 9] rfl)
                                          · skip
                                            exfalso; omega
                                    · refine ri_top (b := 0) (by rw [if_neg (by omega), if_pos (by omega)]) ?_
                                      refine ri_if_gt (tgt := 229) hx hb (by unfold inR; omega) dX2_share_209 (by decide) (fun h21 => ?_) (fun h21 => ?_)
                                      · skip
                                        exfalso; omega
                                      · skip
                                        refine lv_lload hx hb dX2_share_212 (lv_at hl 0 rfl) ?_
                                        refine lv_lload hx hb dX2_share_214 (lv_at hl 3 rfl) ?_
                                        refine lv_iload_n hx hb dX2_share_216 rfl (lv_at hl 6 rfl) ?_
                                        refine rl_i2l hx hb (dsN F N) (by omega) (by omega) dX2_share_217 ?_
                                        refine rl_rem hx hb (by omega) (by omega) (by omega) dX2_share_218 ?_
                                        refine rl_cmp hx hb (by omega) (by omega) dX2_share_219 ?_
                                        rcases Nat.lt_trichotomy ((((sum) * (dzN F N i)) % (dsN F N))) ((((sum) * (dzN F N cv)) % (dsN F N))) with h3 | h3 | h3
                                        · refine ri_top (b := -1) (by rw [if_neg (by omega), if_neg (by omega)]) ?_
                                          refine ri_if_ne (tgt := 232) hx hb (by unfold inR; omega) dX2_share_220 (by decide) (fun h22 => ?_) (fun h22 => ?_)
                                          · skip
                                            have e8 : cntB (shP F N cv sum) (i + 1) = cntB (shP F N cv sum) i := by rw [cntB, if_neg (shP_no (by omega)), Nat.add_zero]
                                            have hl : lv_has ls 12 [(10, .long (lN (((sum) * (dzN F N i)) % (dsN F N)))), (9, .int (iI (i))), (8, .int (iI ((cntB (shP F N cv sum) (i + 1) : Nat)))), (6, .long (lN ((sum) * (dzN F N cv)))), (5, .int (iI ((sum : Int) - (smB (fun i => sum * dzN F N i / dsN F N) (F 5) : Nat)))), (4, .int (iI (0))), (3, .int (iI ((dsN F N : Nat)))), (0, .ref o), (1, .int (iI (cv))), (2, .int (iI (sum)))] := by rw [e8]; exact hl
                                            refine lv_iinc (v := iI ((i + 1 : Nat))) (lv' := [(9, .int (iI ((i + 1 : Nat)))), (10, .long (lN (((sum) * (dzN F N i)) % (dsN F N)))), (8, .int (iI ((cntB (shP F N cv sum) (i + 1) : Nat)))), (6, .long (lN ((sum) * (dzN F N cv)))), (5, .int (iI ((sum : Int) - (smB (fun i => sum * dzN F N i / dsN F N) (F 5) : Nat)))), (4, .int (iI (0))), (3, .int (iI ((dsN F N : Nat)))), (0, .ref o), (1, .int (iI (cv))), (2, .int (iI (sum)))]) hx hb dX2_share_232 hl (k := 1) rfl (iI_succ _) (by decide) rfl (fun ls hl => ?_)
                                            refine lv_goto (tgt := 167) hx hb dX2_share_235 (by decide) ?_
                                            exact ih167 (i + 1) (by omega) (by omega) _ _ _ hW hS (lv_sub hl [0, 2, 3, 4, 5, 6, 7, 8, 9] rfl)
                                          · skip
                                            exfalso; omega
                                        · refine ri_top (b := 0) (by rw [if_neg (by omega), if_pos (by omega)]) ?_
                                          refine ri_if_ne (tgt := 232) hx hb (by unfold inR; omega) dX2_share_220 (by decide) (fun h23 => ?_) (fun h23 => ?_)
                                          · skip
                                            exfalso; omega
                                          · skip
                                            refine lv_iload hx hb dX2_share_223 (lv_at hl 1 rfl) ?_
                                            refine lv_iload_n hx hb dX2_share_225 rfl (lv_at hl 8 rfl) ?_
                                            refine ri_icmp_ge (tgt := 232) hx hb (by unfold inR; omega) (by unfold inR; omega) dX2_share_226 (by decide) (fun h24 => ?_) (fun h24 => ?_)
                                            · skip
                                              have e8 : cntB (shP F N cv sum) (i + 1) = cntB (shP F N cv sum) i := by rw [cntB, if_neg (shP_no (by omega)), Nat.add_zero]
                                              have hl : lv_has ls 12 [(10, .long (lN (((sum) * (dzN F N i)) % (dsN F N)))), (9, .int (iI (i))), (8, .int (iI ((cntB (shP F N cv sum) (i + 1) : Nat)))), (6, .long (lN ((sum) * (dzN F N cv)))), (5, .int (iI ((sum : Int) - (smB (fun i => sum * dzN F N i / dsN F N) (F 5) : Nat)))), (4, .int (iI (0))), (3, .int (iI ((dsN F N : Nat)))), (0, .ref o), (1, .int (iI (cv))), (2, .int (iI (sum)))] := by rw [e8]; exact hl
                                              refine lv_iinc (v := iI ((i + 1 : Nat))) (lv' := [(9, .int (iI ((i + 1 : Nat)))), (10, .long (lN (((sum) * (dzN F N i)) % (dsN F N)))), (8, .int (iI ((cntB (shP F N cv sum) (i + 1) : Nat)))), (6, .long (lN ((sum) * (dzN F N cv)))), (5, .int (iI ((sum : Int) - (smB (fun i => sum * dzN F N i / dsN F N) (F 5) : Nat)))), (4, .int (iI (0))), (3, .int (iI ((dsN F N : Nat)))), (0, .ref o), (1, .int (iI (cv))), (2, .int (iI (sum)))]) hx hb dX2_share_232 hl (k := 1) rfl (iI_succ _) (by decide) rfl (fun ls hl => ?_)
                                              refine lv_goto (tgt := 167) hx hb dX2_share_235 (by decide) ?_
                                              exact ih167 (i + 1) (by omega) (by omega) _ _ _ hW hS (lv_sub hl [0, 2, 3, 4, 5, 6, 7, 8, 9] rfl)
                                            · skip
                                              refine lv_iinc (v := iI ((cntB (shP F N cv sum) (i + 1) : Nat))) (lv' := [(8, .int (iI ((cntB (shP F N cv sum) (i + 1) : Nat)))), (10, .long (lN (((sum) * (dzN F N i)) % (dsN F N)))), (9, .int (iI (i))), (6, .long (lN ((sum) * (dzN F N cv)))), (5, .int (iI ((sum : Int) - (smB (fun i => sum * dzN F N i / dsN F N) (F 5) : Nat)))), (4, .int (iI (0))), (3, .int (iI ((dsN F N : Nat)))), (0, .ref o), (1, .int (iI (cv))), (2, .int (iI (sum)))]) hx hb dX2_share_229 hl (k := 2) rfl (by rw [← cnt_1 (shP_yes (by omega))]; exact iI_add _ _) (by decide) rfl (fun ls hl => ?_)
                                              refine lv_iinc (v := iI ((i + 1 : Nat))) (lv' := [(9, .int (iI ((i + 1 : Nat)))), (8, .int (iI ((cntB (shP F N cv sum) (i + 1) : Nat)))), (10, .long (lN (((sum) * (dzN F N i)) % (dsN F N)))), (6, .long (lN ((sum) * (dzN F N cv)))), (5, .int (iI ((sum : Int) - (smB (fun i => sum * dzN F N i / dsN F N) (F 5) : Nat)))), (4, .int (iI (0))), (3, .int (iI ((dsN F N : Nat)))), (0, .ref o), (1, .int (iI (cv))), (2, .int (iI (sum)))]) hx hb dX2_share_232 hl (k := 2) rfl (iI_succ _) (by decide) rfl (fun ls hl => ?_)
                                              refine lv_goto (tgt := 167) hx hb dX2_share_235 (by decide) ?_
                                              exact ih167 (i + 1) (by omega) (by omega) _ _ _ hW hS (lv_sub hl [0, 1, 3, 4, 5, 6, 7, 8, 9] rfl)
                                        · refine ri_top (b := 1) (if_pos h3) ?_
                                          refine ri_if_ne (tgt := 232) hx hb (by unfold inR; omega) dX2_share_220 (by decide) (fun h25 => ?_) (fun h25 => ?_)
                                          · skip
                                            have e8 : cntB (shP F N cv sum) (i + 1) = cntB (shP F N cv sum) i := by rw [cntB, if_neg (shP_no (by omega)), Nat.add_zero]
                                            have hl : lv_has ls 12 [(10, .long (lN (((sum) * (dzN F N i)) % (dsN F N)))), (9, .int (iI (i))), (8, .int (iI ((cntB (shP F N cv sum) (i + 1) : Nat)))), (6, .long (lN ((sum) * (dzN F N cv)))), (5, .int (iI ((sum : Int) - (smB (fun i => sum * dzN F N i / dsN F N) (F 5) : Nat)))), (4, .int (iI (0))), (3, .int (iI ((dsN F N : Nat)))), (0, .ref o), (1, .int (iI (cv))), (2, .int (iI (sum)))] := by rw [e8]; exact hl
                                            refine lv_iinc (v := iI ((i + 1 : Nat))) (lv' := [(9, .int (iI ((i + 1 : Nat)))), (10, .long (lN (((sum) * (dzN F N i)) % (dsN F N)))), (8, .int (iI ((cntB (shP F N cv sum) (i + 1) : Nat)))), (6, .long (lN ((sum) * (dzN F N cv)))), (5, .int (iI ((sum : Int) - (smB (fun i => sum * dzN F N i / dsN F N) (F 5) : Nat)))), (4, .int (iI (0))), (3, .int (iI ((dsN F N : Nat)))), (0, .ref o), (1, .int (iI (cv))), (2, .int (iI (sum)))]) hx hb dX2_share_232 hl (k := 1) rfl (iI_succ _) (by decide) rfl (fun ls hl => ?_)
                                            refine lv_goto (tgt := 167) hx hb dX2_share_235 (by decide) ?_
                                            exact ih167 (i + 1) (by omega) (by omega) _ _ _ hW hS (lv_sub hl [0, 2, 3, 4, 5, 6, 7, 8, 9] rfl)
                                          · skip
                                            exfalso; omega
                                    · refine ri_top (b := 1) (if_pos h3) ?_
                                      refine ri_if_gt (tgt := 229) hx hb (by unfold inR; omega) dX2_share_209 (by decide) (fun h26 => ?_) (fun h26 => ?_)
                                      · skip
                                        refine lv_iinc (v := iI ((cntB (shP F N cv sum) (i + 1) : Nat))) (lv' := [(8, .int (iI ((cntB (shP F N cv sum) (i + 1) : Nat)))), (10, .long (lN (((sum) * (dzN F N i)) % (dsN F N)))), (9, .int (iI (i))), (6, .long (lN ((sum) * (dzN F N cv)))), (5, .int (iI ((sum : Int) - (smB (fun i => sum * dzN F N i / dsN F N) (F 5) : Nat)))), (4, .int (iI (0))), (3, .int (iI ((dsN F N : Nat)))), (0, .ref o), (1, .int (iI (cv))), (2, .int (iI (sum)))]) hx hb dX2_share_229 hl (k := 2) rfl (by rw [← cnt_1 (shP_yes (by omega))]; exact iI_add _ _) (by decide) rfl (fun ls hl => ?_)
                                        refine lv_iinc (v := iI ((i + 1 : Nat))) (lv' := [(9, .int (iI ((i + 1 : Nat)))), (8, .int (iI ((cntB (shP F N cv sum) (i + 1) : Nat)))), (10, .long (lN (((sum) * (dzN F N i)) % (dsN F N)))), (6, .long (lN ((sum) * (dzN F N cv)))), (5, .int (iI ((sum : Int) - (smB (fun i => sum * dzN F N i / dsN F N) (F 5) : Nat)))), (4, .int (iI (0))), (3, .int (iI ((dsN F N : Nat)))), (0, .ref o), (1, .int (iI (cv))), (2, .int (iI (sum)))]) hx hb dX2_share_232 hl (k := 2) rfl (iI_succ _) (by decide) rfl (fun ls hl => ?_)
                                        refine lv_goto (tgt := 167) hx hb dX2_share_235 (by decide) ?_
                                        exact ih167 (i + 1) (by omega) (by omega) _ _ _ hW hS (lv_sub hl [0, 1, 3, 4, 5, 6, 7, 8, 9] rfl)
                                      · skip
                                        exfalso; omega
                                  · skip
                                    exfalso; omega
                            exact lp167 _ (0) (by omega) (Nat.lt_succ_self _) _ _ _ hW hS (lv_sub hl [0, 1, 2, 3, 4, 5, 6, 7, 8] rfl)
                          · skip
                            exfalso; omega
                        · skip
                          refine lv_iload hx hb dX2_share_105 (lv_at hl 1 rfl) ?_
                          refine lv_iload_n hx hb dX2_share_107 rfl (lv_at hl 6 rfl) ?_
                          refine rl_i2l hx hb (sum) (by omega) (by omega) dX2_share_108 ?_
                          refine lv_iload hx hb dX2_share_109 (lv_at hl 2 rfl) ?_
                          refine ri_if_eq (tgt := 118) hx hb (by unfold inR; omega) dX2_share_111 (by decide) (fun h27 => ?_) (fun h27 => ?_)
                          · skip
                            refine lv_aload_n hx hb dX2_share_118 rfl (lv_at hl 4 rfl) ?_
                            refine m_get hx hb hts hown hK hW 12 (by decide) q986 rfl (v := .ref (ad 12)) rfl dX2_share_119 ?_
                            refine lv_iload hx hb dX2_share_122 (lv_at hl 0 rfl) ?_
                            refine h_iald hx hb hK hW.a12 (i) (by omega) (by omega) (by decide) dX2_share_124 ?_
                            have b28 : N 12 (i) ≤ 31 := hN 12 (i)
                            refine rl_i2l hx hb (dzN F N i) (by unfold dzN; first | rw [if_pos (by omega)]; rfl | rw [if_neg (by omega)]) (by omega) dX2_share_125 ?_
                            refine rl_mul hx hb dX2_share_126 ?_
                            refine lv_iload_n hx hb dX2_share_127 rfl (lv_at hl 3 rfl) ?_
                            refine rl_i2l hx hb (dsN F N) (by omega) (by omega) dX2_share_128 ?_
                            refine rl_div hx hb (by omega) (by omega) (by omega) dX2_share_129 ?_
                            refine rl_l2i hx hb dX2_share_130 ?_
                            refine ri_isub hx hb dX2_share_131 ?_
                            refine ri_top (b := (sum : Int) - (smB (fun i => sum * dzN F N i / dsN F N) (i + 1) : Nat)) (by rw [smB]; omega) ?_
                            refine lv_istore (lv' := [(5, .int (iI ((sum : Int) - (smB (fun i => sum * dzN F N i / dsN F N) (i + 1) : Nat)))), (6, .int (iI (i))), (4, .int (iI (0))), (3, .int (iI ((dsN F N : Nat)))), (0, .ref o), (1, .int (iI (cv))), (2, .int (iI (sum)))]) hx hb dX2_share_132 hl (by decide) rfl (fun ls hl => ?_)
                            refine lv_iinc (v := iI ((i + 1 : Nat))) (lv' := [(6, .int (iI ((i + 1 : Nat)))), (5, .int (iI ((sum : Int) - (smB (fun i => sum * dzN F N i / dsN F N) (i + 1) : Nat)))), (4, .int (iI (0))), (3, .int (iI ((dsN F N : Nat)))), (0, .ref o), (1, .int (iI (cv))), (2, .int (iI (sum)))]) hx hb dX2_share_134 hl (k := 1) rfl (iI_succ _) (by decide) rfl (fun ls hl => ?_)
                            refine lv_goto (tgt := 96) hx hb dX2_share_137 (by decide) ?_
                            exact ih96 (i + 1) (by omega) (by omega) _ _ _ hW hS (lv_sub hl [0, 1, 2, 3, 4, 5, 6] rfl)
                          · skip
                            exfalso; omega
                    have hl : lv_has ls 12 [(6, .int (iI (0))), (5, .int (iI ((sum : Int) - (smB (fun i => sum * dzN F N i / dsN F N) 0 : Nat)))), (4, .int (iI (0))), (3, .int (iI ((dsN F N : Nat)))), (0, .ref o), (1, .int (iI (cv))), (2, .int (iI (sum)))] := by rw [show ((sum : Int) - (smB (fun i => sum * dzN F N i / dsN F N) 0 : Nat)) = sum from by simp [smB]]; exact hl
                    exact lp96 _ (0) (by omega) (Nat.lt_succ_self _) _ _ _ hW hS (lv_sub hl [0, 1, 2, 3, 4, 5, 6] rfl)
                  · skip
                    exfalso; omega
                · skip
                  refine lv_iconst (v := iI (1)) hx hb dX2_share_73 rfl ?_
                  refine lv_goto (tgt := 78) hx hb dX2_share_74 (by decide) ?_
                  refine lv_istore (lv' := [(4, .int (iI (1))), (3, .int (iI (smB (N 12) (F 5)))), (0, .ref o), (1, .int (iI (cv))), (2, .int (iI (sum)))]) hx hb dX2_share_78 hl (by decide) rfl (fun ls hl => ?_)
                  refine lv_iload hx hb dX2_share_80 (lv_at hl 0 rfl) ?_
                  refine ri_if_eq (tgt := 90) hx hb (by unfold inR; omega) dX2_share_82 (by decide) (fun h29 => ?_) (fun h29 => ?_)
                  · skip
                    exfalso; omega
                  · skip
                    refine lv_aload_n hx hb dX2_share_85 rfl (lv_at hl 2 rfl) ?_
                    refine m_get hx hb hts hown hK hW 5 (by decide) q979 rfl (v := .int (iI (F 5))) rfl dX2_share_86 ?_
                    refine ri_top (b := (dsN F N : Nat)) (by unfold dsN; rw [if_pos (by omega)]) ?_
                    refine lv_istore_n (lv' := [(3, .int (iI ((dsN F N : Nat)))), (4, .int (iI (1))), (0, .ref o), (1, .int (iI (cv))), (2, .int (iI (sum)))]) hx hb dX2_share_89 rfl hl (by decide) rfl (fun ls hl => ?_)
                    refine lv_iload_n hx hb dX2_share_90 rfl (lv_at hl 4 rfl) ?_
                    refine lv_istore (lv' := [(5, .int (iI (sum))), (3, .int (iI ((dsN F N : Nat)))), (4, .int (iI (1))), (0, .ref o), (1, .int (iI (cv))), (2, .int (iI (sum)))]) hx hb dX2_share_91 hl (by decide) rfl (fun ls hl => ?_)
                    refine lv_iconst (v := iI (0)) hx hb dX2_share_93 rfl ?_
                    refine lv_istore (lv' := [(6, .int (iI (0))), (5, .int (iI (sum))), (3, .int (iI ((dsN F N : Nat)))), (4, .int (iI (1))), (0, .ref o), (1, .int (iI (cv))), (2, .int (iI (sum)))]) hx hb dX2_share_94 hl (by decide) rfl (fun ls hl => ?_)
                    have lp96 : ∀ (fuel : Nat) (i : Nat) (hi : i ≤ F 5), F 5 - i < fuel → ∀ (H : Heap) (locs : List Loc) (ls : Array Slot), MW D cA A o ad (va_up (F) 0 (0)) G N X Z H → va_S A s.heap H locs → lv_has ls 12 [(6, .int (iI (i))), (5, .int (iI ((sum : Int) - (smB (fun i => sum * dzN F N i / dsN F N) i : Nat)))), (3, .int (iI ((dsN F N : Nat)))), (4, .int (iI (1))), (0, .ref o), (1, .int (iI (cv))), (2, .int (iI (sum)))] → W p l e (headSpec (ws_ yX2_share cX2_share 12 (some .int)) ({ frames := 1, cells := 0, slots := 0, locals := 30 })).room s m ([.ref o, .int (iI (cv)), .int (iI (sum))] : List Value).toArray below meth c H locs 0 0 (MQ below (Qi (fun z H' => z = shV F N cv sum ∧ MW D cA A o ad (va_up F 0 0) G N X Z H') A) ([.ref o, .int (iI (cv)), .int (iI (sum))] : List Value).toArray s 0 0 (A)) (F0 m 96 ls []) := by
                      intro fuel
                      induction fuel with
                      | zero => intro i hi hm; exact absurd hm (Nat.not_lt_zero _)
                      | succ fuel ih96 =>
                        intro i hi hm96 H locs ls hW hS hl
                        have hdzi := dz_le (F := F) hN i
                        have hd1 := mul_31 (b := dzN F N i) hsum (dz_le hN i)
                        refine lv_iload hx hb dX2_share_96 (lv_at hl 0 rfl) ?_
                        refine lv_aload_n hx hb dX2_share_98 rfl (lv_at hl 4 rfl) ?_
                        refine m_get hx hb hts hown hK hW 5 (by decide) q979 rfl (v := .int (iI (F 5))) rfl dX2_share_99 ?_
                        refine ri_icmp_ge (tgt := 140) hx hb (by unfold inR; omega) (by unfold inR; omega) dX2_share_102 (by decide) (fun h30 => ?_) (fun h30 => ?_)
                        · skip
                          have hi5 : i = F 5 := by omega
                          rw [hi5] at hl
                          refine lv_iload_n hx hb dX2_share_140 rfl (lv_at hl 6 rfl) ?_
                          refine rl_i2l hx hb (sum) (by omega) (by omega) dX2_share_141 ?_
                          refine lv_iload hx hb dX2_share_142 (lv_at hl 3 rfl) ?_
                          refine ri_if_eq (tgt := 151) hx hb (by unfold inR; omega) dX2_share_144 (by decide) (fun h31 => ?_) (fun h31 => ?_)
                          · skip
                            exfalso; omega
                          · skip
                            refine lv_iconst (v := iI (1)) hx hb dX2_share_147 rfl ?_
                            refine lv_goto (tgt := 157) hx hb dX2_share_148 (by decide) ?_
                            refine rl_i2l hx hb (dzN F N cv) (by unfold dzN; first | rw [if_pos (by omega)]; rfl | rw [if_neg (by omega)]) (by omega) dX2_share_157 ?_
                            refine rl_mul hx hb dX2_share_158 ?_
                            refine lv_lstore (lv' := [(6, .long (lN ((sum) * (dzN F N cv)))), (5, .int (iI ((sum : Int) - (smB (fun i => sum * dzN F N i / dsN F N) (F 5) : Nat)))), (3, .int (iI ((dsN F N : Nat)))), (4, .int (iI (1))), (0, .ref o), (1, .int (iI (cv))), (2, .int (iI (sum)))]) hx hb dX2_share_159 hl (by decide) rfl (fun ls hl => ?_)
                            refine lv_iconst (v := iI (0)) hx hb dX2_share_161 rfl ?_
                            refine lv_istore (lv' := [(8, .int (iI (0))), (6, .long (lN ((sum) * (dzN F N cv)))), (5, .int (iI ((sum : Int) - (smB (fun i => sum * dzN F N i / dsN F N) (F 5) : Nat)))), (3, .int (iI ((dsN F N : Nat)))), (4, .int (iI (1))), (0, .ref o), (1, .int (iI (cv))), (2, .int (iI (sum)))]) hx hb dX2_share_162 hl (by decide) rfl (fun ls hl => ?_)
                            refine lv_iconst (v := iI (0)) hx hb dX2_share_164 rfl ?_
                            refine lv_istore (lv' := [(9, .int (iI (0))), (8, .int (iI (0))), (6, .long (lN ((sum) * (dzN F N cv)))), (5, .int (iI ((sum : Int) - (smB (fun i => sum * dzN F N i / dsN F N) (F 5) : Nat)))), (3, .int (iI ((dsN F N : Nat)))), (4, .int (iI (1))), (0, .ref o), (1, .int (iI (cv))), (2, .int (iI (sum)))]) hx hb dX2_share_165 hl (by decide) rfl (fun ls hl => ?_)
                            have lp167 : ∀ (fuel : Nat) (i : Nat) (hi : i ≤ F 5), F 5 - i < fuel → ∀ (H : Heap) (locs : List Loc) (ls : Array Slot), MW D cA A o ad (va_up (F) 0 (0)) G N X Z H → va_S A s.heap H locs → lv_has ls 12 [(9, .int (iI (i))), (8, .int (iI (cntB (shP F N cv sum) i))), (6, .long (lN ((sum) * (dzN F N cv)))), (5, .int (iI ((sum : Int) - (smB (fun i => sum * dzN F N i / dsN F N) (F 5) : Nat)))), (3, .int (iI ((dsN F N : Nat)))), (4, .int (iI (1))), (0, .ref o), (1, .int (iI (cv))), (2, .int (iI (sum)))] → W p l e (headSpec (ws_ yX2_share cX2_share 12 (some .int)) ({ frames := 1, cells := 0, slots := 0, locals := 30 })).room s m ([.ref o, .int (iI (cv)), .int (iI (sum))] : List Value).toArray below meth c H locs 0 0 (MQ below (Qi (fun z H' => z = shV F N cv sum ∧ MW D cA A o ad (va_up F 0 0) G N X Z H') A) ([.ref o, .int (iI (cv)), .int (iI (sum))] : List Value).toArray s 0 0 (A)) (F0 m 167 ls []) := by
                              intro fuel
                              induction fuel with
                              | zero => intro i hi hm; exact absurd hm (Nat.not_lt_zero _)
                              | succ fuel ih167 =>
                                intro i hi hm167 H locs ls hW hS hl
                                have hdzi := dz_le (F := F) hN i
                                have hd1 := mul_31 (b := dzN F N i) hsum (dz_le hN i)
                                have hc1 := cntB_le (shP F N cv sum) i
                                have hr1 := Nat.mod_lt (sum * dzN F N i) hds
                                have hr2 := Nat.mod_lt (sum * dzN F N cv) hds
                                refine lv_iload hx hb dX2_share_167 (lv_at hl 0 rfl) ?_
                                refine lv_aload_n hx hb dX2_share_169 rfl (lv_at hl 6 rfl) ?_
                                refine m_get hx hb hts hown hK hW 5 (by decide) q979 rfl (v := .int (iI (F 5))) rfl dX2_share_170 ?_
                                refine ri_icmp_ge (tgt := 238) hx hb (by unfold inR; omega) (by unfold inR; omega) dX2_share_173 (by decide) (fun h32 => ?_) (fun h32 => ?_)
                                · skip
                                  have hi6 : i = F 5 := by omega
                                  rw [hi6] at hl
                                  have hc2 := cntB_le (shP F N cv sum) (F 5)
                                  refine lv_lload hx hb dX2_share_238 (lv_at hl 2 rfl) ?_
                                  refine lv_iload_n hx hb dX2_share_240 rfl (lv_at hl 4 rfl) ?_
                                  refine rl_i2l hx hb (dsN F N) (by omega) (by omega) dX2_share_241 ?_
                                  refine rl_div hx hb (by omega) (by omega) (by omega) dX2_share_242 ?_
                                  refine rl_l2i hx hb dX2_share_243 ?_
                                  refine lv_iload hx hb dX2_share_244 (lv_at hl 1 rfl) ?_
                                  refine lv_iload hx hb dX2_share_246 (lv_at hl 3 rfl) ?_
                                  refine ri_icmp_ge (tgt := 255) hx hb (by unfold inR; omega) (by unfold inR; omega) dX2_share_248 (by decide) (fun h33 => ?_) (fun h33 => ?_)
                                  · skip
                                    refine lv_iconst (v := iI (0)) hx hb dX2_share_255 rfl ?_
                                    refine ri_iadd hx hb dX2_share_256 ?_
                                    exact W.iret hx hb hr (fun t ht hWm => ⟨⟨_, rfl, by rw [ht]; exact ⟨by unfold shV; first | (rw [if_pos (by omega)]) | (rw [if_neg (by omega)]), hW⟩⟩, hS.F ht⟩) hS.2.2 dX2_share_257
                                  · skip
                                    refine lv_iconst (v := iI (1)) hx hb dX2_share_251 rfl ?_
                                    refine lv_goto (tgt := 256) hx hb dX2_share_252 (by decide) ?_
                                    refine ri_iadd hx hb dX2_share_256 ?_
                                    exact W.iret hx hb hr (fun t ht hWm => ⟨⟨_, rfl, by rw [ht]; exact ⟨by unfold shV; first | (rw [if_pos (by omega)]) | (rw [if_neg (by omega)]), hW⟩⟩, hS.F ht⟩) hS.2.2 dX2_share_257
                                · skip
                                  refine lv_iload_n hx hb dX2_share_176 rfl (lv_at hl 8 rfl) ?_
                                  refine rl_i2l hx hb (sum) (by omega) (by omega) dX2_share_177 ?_
                                  refine lv_iload hx hb dX2_share_178 (lv_at hl 5 rfl) ?_
                                  refine ri_if_eq (tgt := 187) hx hb (by unfold inR; omega) dX2_share_180 (by decide) (fun h34 => ?_) (fun h34 => ?_)
                                  · skip
                                    exfalso; omega
                                  · skip
                                    refine lv_iconst (v := iI (1)) hx hb dX2_share_183 rfl ?_
                                    refine lv_goto (tgt := 194) hx hb dX2_share_184 (by decide) ?_
                                    refine rl_i2l hx hb (dzN F N i) (by unfold dzN; first | rw [if_pos (by omega)]; rfl | rw [if_neg (by omega)]) (by omega) dX2_share_194 ?_
                                    refine rl_mul hx hb dX2_share_195 ?_
                                    refine lv_iload_n hx hb dX2_share_196 rfl (lv_at hl 4 rfl) ?_
                                    refine rl_i2l hx hb (dsN F N) (by omega) (by omega) dX2_share_197 ?_
                                    refine rl_rem hx hb (by omega) (by omega) (by omega) dX2_share_198 ?_
                                    refine lv_lstore (lv' := [(10, .long (lN (((sum) * (dzN F N i)) % (dsN F N)))), (9, .int (iI (i))), (8, .int (iI (cntB (shP F N cv sum) i))), (6, .long (lN ((sum) * (dzN F N cv)))), (5, .int (iI ((sum : Int) - (smB (fun i => sum * dzN F N i / dsN F N) (F 5) : Nat)))), (3, .int (iI ((dsN F N : Nat)))), (4, .int (iI (1))), (0, .ref o), (1, .int (iI (cv))), (2, .int (iI (sum)))]) hx hb dX2_share_199 hl (by decide) rfl (fun ls hl => ?_)
                                    refine lv_lload hx hb dX2_share_201 (lv_at hl 0 rfl) ?_
                                    refine lv_lload hx hb dX2_share_203 (lv_at hl 3 rfl) ?_
                                    refine lv_iload_n hx hb dX2_share_205 rfl (lv_at hl 5 rfl) ?_
                                    refine rl_i2l hx hb (dsN F N) (by omega) (by omega) dX2_share_206 ?_
                                    refine rl_rem hx hb (by omega) (by omega) (by omega) dX2_share_207 ?_
                                    refine rl_cmp hx hb (by omega) (by omega) dX2_share_208 ?_
                                    rcases Nat.lt_trichotomy ((((sum) * (dzN F N i)) % (dsN F N))) ((((sum) * (dzN F N cv)) % (dsN F N))) with h3 | h3 | h3
                                    · refine ri_top (b := -1) (by rw [if_neg (by omega), if_neg (by omega)]) ?_
                                      refine ri_if_gt (tgt := 229) hx hb (by unfold inR; omega) dX2_share_209 (by decide) (fun h35 => ?_) (fun h35 => ?_)
                                      · skip
                                        exfalso; omega
                                      · skip
                                        refine lv_lload hx hb dX2_share_212 (lv_at hl 0 rfl) ?_
                                        refine lv_lload hx hb dX2_share_214 (lv_at hl 3 rfl) ?_
                                        refine lv_iload_n hx hb dX2_share_216 rfl (lv_at hl 5 rfl) ?_
                                        refine rl_i2l hx hb (dsN F N) (by omega) (by omega) dX2_share_217 ?_
                                        refine rl_rem hx hb (by omega) (by omega) (by omega) dX2_share_218 ?_
                                        refine rl_cmp hx hb (by omega) (by omega) dX2_share_219 ?_
                                        rcases Nat.lt_trichotomy ((((sum) * (dzN F N i)) % (dsN F N))) ((((sum) * (dzN F N cv)) % (dsN F N))) with h3 | h3 | h3
                                        · refine ri_top (b := -1) (by rw [if_neg (by omega), if_neg (by omega)]) ?_
                                          refine ri_if_ne (tgt := 232) hx hb (by unfold inR; omega) dX2_share_220 (by decide) (fun h36 => ?_) (fun h36 => ?_)
                                          · skip
                                            have e8 : cntB (shP F N cv sum) (i + 1) = cntB (shP F N cv sum) i := by rw [cntB, if_neg (shP_no (by omega)), Nat.add_zero]
                                            have hl : lv_has ls 12 [(10, .long (lN (((sum) * (dzN F N i)) % (dsN F N)))), (9, .int (iI (i))), (8, .int (iI ((cntB (shP F N cv sum) (i + 1) : Nat)))), (6, .long (lN ((sum) * (dzN F N cv)))), (5, .int (iI ((sum : Int) - (smB (fun i => sum * dzN F N i / dsN F N) (F 5) : Nat)))), (3, .int (iI ((dsN F N : Nat)))), (4, .int (iI (1))), (0, .ref o), (1, .int (iI (cv))), (2, .int (iI (sum)))] := by rw [e8]; exact hl
                                            refine lv_iinc (v := iI ((i + 1 : Nat))) (lv' := [(9, .int (iI ((i + 1 : Nat)))), (10, .long (lN (((sum) * (dzN F N i)) % (dsN F N)))), (8, .int (iI ((cntB (shP F N cv sum) (i + 1) : Nat)))), (6, .long (lN ((sum) * (dzN F N cv)))), (5, .int (iI ((sum : Int) - (smB (fun i => sum * dzN F N i / dsN F N) (F 5) : Nat)))), (3, .int (iI ((dsN F N : Nat)))), (4, .int (iI (1))), (0, .ref o), (1, .int (iI (cv))), (2, .int (iI (sum)))]) hx hb dX2_share_232 hl (k := 1) rfl (iI_succ _) (by decide) rfl (fun ls hl => ?_)
                                            refine lv_goto (tgt := 167) hx hb dX2_share_235 (by decide) ?_
                                            exact ih167 (i + 1) (by omega) (by omega) _ _ _ hW hS (lv_sub hl [0, 2, 3, 4, 5, 6, 7, 8, 9] rfl)
                                          · skip
                                            exfalso; omega
                                        · refine ri_top (b := 0) (by rw [if_neg (by omega), if_pos (by omega)]) ?_
                                          refine ri_if_ne (tgt := 232) hx hb (by unfold inR; omega) dX2_share_220 (by decide) (fun h37 => ?_) (fun h37 => ?_)
                                          · skip
                                            exfalso; omega
                                          · skip
                                            refine lv_iload hx hb dX2_share_223 (lv_at hl 1 rfl) ?_
                                            refine lv_iload_n hx hb dX2_share_225 rfl (lv_at hl 8 rfl) ?_
                                            refine ri_icmp_ge (tgt := 232) hx hb (by unfold inR; omega) (by unfold inR; omega) dX2_share_226 (by decide) (fun h38 => ?_) (fun h38 => ?_)
                                            · skip
                                              have e8 : cntB (shP F N cv sum) (i + 1) = cntB (shP F N cv sum) i := by rw [cntB, if_neg (shP_no (by omega)), Nat.add_zero]
                                              have hl : lv_has ls 12 [(10, .long (lN (((sum) * (dzN F N i)) % (dsN F N)))), (9, .int (iI (i))), (8, .int (iI ((cntB (shP F N cv sum) (i + 1) : Nat)))), (6, .long (lN ((sum) * (dzN F N cv)))), (5, .int (iI ((sum : Int) - (smB (fun i => sum * dzN F N i / dsN F N) (F 5) : Nat)))), (3, .int (iI ((dsN F N : Nat)))), (4, .int (iI (1))), (0, .ref o), (1, .int (iI (cv))), (2, .int (iI (sum)))] := by rw [e8]; exact hl
                                              refine lv_iinc (v := iI ((i + 1 : Nat))) (lv' := [(9, .int (iI ((i + 1 : Nat)))), (10, .long (lN (((sum) * (dzN F N i)) % (dsN F N)))), (8, .int (iI ((cntB (shP F N cv sum) (i + 1) : Nat)))), (6, .long (lN ((sum) * (dzN F N cv)))), (5, .int (iI ((sum : Int) - (smB (fun i => sum * dzN F N i / dsN F N) (F 5) : Nat)))), (3, .int (iI ((dsN F N : Nat)))), (4, .int (iI (1))), (0, .ref o), (1, .int (iI (cv))), (2, .int (iI (sum)))]) hx hb dX2_share_232 hl (k := 1) rfl (iI_succ _) (by decide) rfl (fun ls hl => ?_)
                                              refine lv_goto (tgt := 167) hx hb dX2_share_235 (by decide) ?_
                                              exact ih167 (i + 1) (by omega) (by omega) _ _ _ hW hS (lv_sub hl [0, 2, 3, 4, 5, 6, 7, 8, 9] rfl)
                                            · skip
                                              refine lv_iinc (v := iI ((cntB (shP F N cv sum) (i + 1) : Nat))) (lv' := [(8, .int (iI ((cntB (shP F N cv sum) (i + 1) : Nat)))), (10, .long (lN (((sum) * (dzN F N i)) % (dsN F N)))), (9, .int (iI (i))), (6, .long (lN ((sum) * (dzN F N cv)))), (5, .int (iI ((sum : Int) - (smB (fun i => sum * dzN F N i / dsN F N) (F 5) : Nat)))), (3, .int (iI ((dsN F N : Nat)))), (4, .int (iI (1))), (0, .ref o), (1, .int (iI (cv))), (2, .int (iI (sum)))]) hx hb dX2_share_229 hl (k := 2) rfl (by rw [← cnt_1 (shP_yes (by omega))]; exact iI_add _ _) (by decide) rfl (fun ls hl => ?_)
                                              refine lv_iinc (v := iI ((i + 1 : Nat))) (lv' := [(9, .int (iI ((i + 1 : Nat)))), (8, .int (iI ((cntB (shP F N cv sum) (i + 1) : Nat)))), (10, .long (lN (((sum) * (dzN F N i)) % (dsN F N)))), (6, .long (lN ((sum) * (dzN F N cv)))), (5, .int (iI ((sum : Int) - (smB (fun i => sum * dzN F N i / dsN F N) (F 5) : Nat)))), (3, .int (iI ((dsN F N : Nat)))), (4, .int (iI (1))), (0, .ref o), (1, .int (iI (cv))), (2, .int (iI (sum)))]) hx hb dX2_share_232 hl (k := 2) rfl (iI_succ _) (by decide) rfl (fun ls hl => ?_)
                                              refine lv_goto (tgt := 167) hx hb dX2_share_235 (by decide) ?_
                                              exact ih167 (i + 1) (by omega) (by omega) _ _ _ hW hS (lv_sub hl [0, 1, 3, 4, 5, 6, 7, 8, 9] rfl)
                                        · refine ri_top (b := 1) (if_pos h3) ?_
                                          refine ri_if_ne (tgt := 232) hx hb (by unfold inR; omega) dX2_share_220 (by decide) (fun h39 => ?_) (fun h39 => ?_)
                                          · skip
                                            have e8 : cntB (shP F N cv sum) (i + 1) = cntB (shP F N cv sum) i := by rw [cntB, if_neg (shP_no (by omega)), Nat.add_zero]
                                            have hl : lv_has ls 12 [(10, .long (lN (((sum) * (dzN F N i)) % (dsN F N)))), (9, .int (iI (i))), (8, .int (iI ((cntB (shP F N cv sum) (i + 1) : Nat)))), (6, .long (lN ((sum) * (dzN F N cv)))), (5, .int (iI ((sum : Int) - (smB (fun i => sum * dzN F N i / dsN F N) (F 5) : Nat)))), (3, .int (iI ((dsN F N : Nat)))), (4, .int (iI (1))), (0, .ref o), (1, .int (iI (cv))), (2, .int (iI (sum)))] := by rw [e8]; exact hl
                                            refine lv_iinc (v := iI ((i + 1 : Nat))) (lv' := [(9, .int (iI ((i + 1 : Nat)))), (10, .long (lN (((sum) * (dzN F N i)) % (dsN F N)))), (8, .int (iI ((cntB (shP F N cv sum) (i + 1) : Nat)))), (6, .long (lN ((sum) * (dzN F N cv)))), (5, .int (iI ((sum : Int) - (smB (fun i => sum * dzN F N i / dsN F N) (F 5) : Nat)))), (3, .int (iI ((dsN F N : Nat)))), (4, .int (iI (1))), (0, .ref o), (1, .int (iI (cv))), (2, .int (iI (sum)))]) hx hb dX2_share_232 hl (k := 1) rfl (iI_succ _) (by decide) rfl (fun ls hl => ?_)
                                            refine lv_goto (tgt := 167) hx hb dX2_share_235 (by decide) ?_
                                            exact ih167 (i + 1) (by omega) (by omega) _ _ _ hW hS (lv_sub hl [0, 2, 3, 4, 5, 6, 7, 8, 9] rfl)
                                          · skip
                                            exfalso; omega
                                    · refine ri_top (b := 0) (by rw [if_neg (by omega), if_pos (by omega)]) ?_
                                      refine ri_if_gt (tgt := 229) hx hb (by unfold inR; omega) dX2_share_209 (by decide) (fun h40 => ?_) (fun h40 => ?_)
                                      · skip
                                        exfalso; omega
                                      · skip
                                        refine lv_lload hx hb dX2_share_212 (lv_at hl 0 rfl) ?_
                                        refine lv_lload hx hb dX2_share_214 (lv_at hl 3 rfl) ?_
                                        refine lv_iload_n hx hb dX2_share_216 rfl (lv_at hl 5 rfl) ?_
                                        refine rl_i2l hx hb (dsN F N) (by omega) (by omega) dX2_share_217 ?_
                                        refine rl_rem hx hb (by omega) (by omega) (by omega) dX2_share_218 ?_
                                        refine rl_cmp hx hb (by omega) (by omega) dX2_share_219 ?_
                                        rcases Nat.lt_trichotomy ((((sum) * (dzN F N i)) % (dsN F N))) ((((sum) * (dzN F N cv)) % (dsN F N))) with h3 | h3 | h3
                                        · refine ri_top (b := -1) (by rw [if_neg (by omega), if_neg (by omega)]) ?_
                                          refine ri_if_ne (tgt := 232) hx hb (by unfold inR; omega) dX2_share_220 (by decide) (fun h41 => ?_) (fun h41 => ?_)
                                          · skip
                                            have e8 : cntB (shP F N cv sum) (i + 1) = cntB (shP F N cv sum) i := by rw [cntB, if_neg (shP_no (by omega)), Nat.add_zero]
                                            have hl : lv_has ls 12 [(10, .long (lN (((sum) * (dzN F N i)) % (dsN F N)))), (9, .int (iI (i))), (8, .int (iI ((cntB (shP F N cv sum) (i + 1) : Nat)))), (6, .long (lN ((sum) * (dzN F N cv)))), (5, .int (iI ((sum : Int) - (smB (fun i => sum * dzN F N i / dsN F N) (F 5) : Nat)))), (3, .int (iI ((dsN F N : Nat)))), (4, .int (iI (1))), (0, .ref o), (1, .int (iI (cv))), (2, .int (iI (sum)))] := by rw [e8]; exact hl
                                            refine lv_iinc (v := iI ((i + 1 : Nat))) (lv' := [(9, .int (iI ((i + 1 : Nat)))), (10, .long (lN (((sum) * (dzN F N i)) % (dsN F N)))), (8, .int (iI ((cntB (shP F N cv sum) (i + 1) : Nat)))), (6, .long (lN ((sum) * (dzN F N cv)))), (5, .int (iI ((sum : Int) - (smB (fun i => sum * dzN F N i / dsN F N) (F 5) : Nat)))), (3, .int (iI ((dsN F N : Nat)))), (4, .int (iI (1))), (0, .ref o), (1, .int (iI (cv))), (2, .int (iI (sum)))]) hx hb dX2_share_232 hl (k := 1) rfl (iI_succ _) (by decide) rfl (fun ls hl => ?_)
                                            refine lv_goto (tgt := 167) hx hb dX2_share_235 (by decide) ?_
                                            exact ih167 (i + 1) (by omega) (by omega) _ _ _ hW hS (lv_sub hl [0, 2, 3, 4, 5, 6, 7, 8, 9] rfl)
                                          · skip
                                            exfalso; omega
                                        · refine ri_top (b := 0) (by rw [if_neg (by omega), if_pos (by omega)]) ?_
                                          refine ri_if_ne (tgt := 232) hx hb (by unfold inR; omega) dX2_share_220 (by decide) (fun h42 => ?_) (fun h42 => ?_)
                                          · skip
                                            exfalso; omega
                                          · skip
                                            refine lv_iload hx hb dX2_share_223 (lv_at hl 1 rfl) ?_
                                            refine lv_iload_n hx hb dX2_share_225 rfl (lv_at hl 8 rfl) ?_
                                            refine ri_icmp_ge (tgt := 232) hx hb (by unfold inR; omega) (by unfold inR; omega) dX2_share_226 (by decide) (fun h43 => ?_) (fun h43 => ?_)
                                            · skip
                                              have e8 : cntB (shP F N cv sum) (i + 1) = cntB (shP F N cv sum) i := by rw [cntB, if_neg (shP_no (by omega)), Nat.add_zero]
                                              have hl : lv_has ls 12 [(10, .long (lN (((sum) * (dzN F N i)) % (dsN F N)))), (9, .int (iI (i))), (8, .int (iI ((cntB (shP F N cv sum) (i + 1) : Nat)))), (6, .long (lN ((sum) * (dzN F N cv)))), (5, .int (iI ((sum : Int) - (smB (fun i => sum * dzN F N i / dsN F N) (F 5) : Nat)))), (3, .int (iI ((dsN F N : Nat)))), (4, .int (iI (1))), (0, .ref o), (1, .int (iI (cv))), (2, .int (iI (sum)))] := by rw [e8]; exact hl
                                              refine lv_iinc (v := iI ((i + 1 : Nat))) (lv' := [(9, .int (iI ((i + 1 : Nat)))), (10, .long (lN (((sum) * (dzN F N i)) % (dsN F N)))), (8, .int (iI ((cntB (shP F N cv sum) (i + 1) : Nat)))), (6, .long (lN ((sum) * (dzN F N cv)))), (5, .int (iI ((sum : Int) - (smB (fun i => sum * dzN F N i / dsN F N) (F 5) : Nat)))), (3, .int (iI ((dsN F N : Nat)))), (4, .int (iI (1))), (0, .ref o), (1, .int (iI (cv))), (2, .int (iI (sum)))]) hx hb dX2_share_232 hl (k := 1) rfl (iI_succ _) (by decide) rfl (fun ls hl => ?_)
                                              refine lv_goto (tgt := 167) hx hb dX2_share_235 (by decide) ?_
                                              exact ih167 (i + 1) (by omega) (by omega) _ _ _ hW hS (lv_sub hl [0, 2, 3, 4, 5, 6, 7, 8, 9] rfl)
                                            · skip
                                              refine lv_iinc (v := iI ((cntB (shP F N cv sum) (i + 1) : Nat))) (lv' := [(8, .int (iI ((cntB (shP F N cv sum) (i + 1) : Nat)))), (10, .long (lN (((sum) * (dzN F N i)) % (dsN F N)))), (9, .int (iI (i))), (6, .long (lN ((sum) * (dzN F N cv)))), (5, .int (iI ((sum : Int) - (smB (fun i => sum * dzN F N i / dsN F N) (F 5) : Nat)))), (3, .int (iI ((dsN F N : Nat)))), (4, .int (iI (1))), (0, .ref o), (1, .int (iI (cv))), (2, .int (iI (sum)))]) hx hb dX2_share_229 hl (k := 2) rfl (by rw [← cnt_1 (shP_yes (by omega))]; exact iI_add _ _) (by decide) rfl (fun ls hl => ?_)
                                              refine lv_iinc (v := iI ((i + 1 : Nat))) (lv' := [(9, .int (iI ((i + 1 : Nat)))), (8, .int (iI ((cntB (shP F N cv sum) (i + 1) : Nat)))), (10, .long (lN (((sum) * (dzN F N i)) % (dsN F N)))), (6, .long (lN ((sum) * (dzN F N cv)))), (5, .int (iI ((sum : Int) - (smB (fun i => sum * dzN F N i / dsN F N) (F 5) : Nat)))), (3, .int (iI ((dsN F N : Nat)))), (4, .int (iI (1))), (0, .ref o), (1, .int (iI (cv))), (2, .int (iI (sum)))]) hx hb dX2_share_232 hl (k := 2) rfl (iI_succ _) (by decide) rfl (fun ls hl => ?_)
                                              refine lv_goto (tgt := 167) hx hb dX2_share_235 (by decide) ?_
                                              exact ih167 (i + 1) (by omega) (by omega) _ _ _ hW hS (lv_sub hl [0, 1, 3, 4, 5, 6, 7, 8, 9] rfl)
                                        · refine ri_top (b := 1) (if_pos h3) ?_
                                          refine ri_if_ne (tgt := 232) hx hb (by unfold inR; omega) dX2_share_220 (by decide) (fun h44 => ?_) (fun h44 => ?_)
                                          · skip
                                            have e8 : cntB (shP F N cv sum) (i + 1) = cntB (shP F N cv sum) i := by rw [cntB, if_neg (shP_no (by omega)), Nat.add_zero]
                                            have hl : lv_has ls 12 [(10, .long (lN (((sum) * (dzN F N i)) % (dsN F N)))), (9, .int (iI (i))), (8, .int (iI ((cntB (shP F N cv sum) (i + 1) : Nat)))), (6, .long (lN ((sum) * (dzN F N cv)))), (5, .int (iI ((sum : Int) - (smB (fun i => sum * dzN F N i / dsN F N) (F 5) : Nat)))), (3, .int (iI ((dsN F N : Nat)))), (4, .int (iI (1))), (0, .ref o), (1, .int (iI (cv))), (2, .int (iI (sum)))] := by rw [e8]; exact hl
                                            refine lv_iinc (v := iI ((i + 1 : Nat))) (lv' := [(9, .int (iI ((i + 1 : Nat)))), (10, .long (lN (((sum) * (dzN F N i)) % (dsN F N)))), (8, .int (iI ((cntB (shP F N cv sum) (i + 1) : Nat)))), (6, .long (lN ((sum) * (dzN F N cv)))), (5, .int (iI ((sum : Int) - (smB (fun i => sum * dzN F N i / dsN F N) (F 5) : Nat)))), (3, .int (iI ((dsN F N : Nat)))), (4, .int (iI (1))), (0, .ref o), (1, .int (iI (cv))), (2, .int (iI (sum)))]) hx hb dX2_share_232 hl (k := 1) rfl (iI_succ _) (by decide) rfl (fun ls hl => ?_)
                                            refine lv_goto (tgt := 167) hx hb dX2_share_235 (by decide) ?_
                                            exact ih167 (i + 1) (by omega) (by omega) _ _ _ hW hS (lv_sub hl [0, 2, 3, 4, 5, 6, 7, 8, 9] rfl)
                                          · skip
                                            exfalso; omega
                                    · refine ri_top (b := 1) (if_pos h3) ?_
                                      refine ri_if_gt (tgt := 229) hx hb (by unfold inR; omega) dX2_share_209 (by decide) (fun h45 => ?_) (fun h45 => ?_)
                                      · skip
                                        refine lv_iinc (v := iI ((cntB (shP F N cv sum) (i + 1) : Nat))) (lv' := [(8, .int (iI ((cntB (shP F N cv sum) (i + 1) : Nat)))), (10, .long (lN (((sum) * (dzN F N i)) % (dsN F N)))), (9, .int (iI (i))), (6, .long (lN ((sum) * (dzN F N cv)))), (5, .int (iI ((sum : Int) - (smB (fun i => sum * dzN F N i / dsN F N) (F 5) : Nat)))), (3, .int (iI ((dsN F N : Nat)))), (4, .int (iI (1))), (0, .ref o), (1, .int (iI (cv))), (2, .int (iI (sum)))]) hx hb dX2_share_229 hl (k := 2) rfl (by rw [← cnt_1 (shP_yes (by omega))]; exact iI_add _ _) (by decide) rfl (fun ls hl => ?_)
                                        refine lv_iinc (v := iI ((i + 1 : Nat))) (lv' := [(9, .int (iI ((i + 1 : Nat)))), (8, .int (iI ((cntB (shP F N cv sum) (i + 1) : Nat)))), (10, .long (lN (((sum) * (dzN F N i)) % (dsN F N)))), (6, .long (lN ((sum) * (dzN F N cv)))), (5, .int (iI ((sum : Int) - (smB (fun i => sum * dzN F N i / dsN F N) (F 5) : Nat)))), (3, .int (iI ((dsN F N : Nat)))), (4, .int (iI (1))), (0, .ref o), (1, .int (iI (cv))), (2, .int (iI (sum)))]) hx hb dX2_share_232 hl (k := 2) rfl (iI_succ _) (by decide) rfl (fun ls hl => ?_)
                                        refine lv_goto (tgt := 167) hx hb dX2_share_235 (by decide) ?_
                                        exact ih167 (i + 1) (by omega) (by omega) _ _ _ hW hS (lv_sub hl [0, 1, 3, 4, 5, 6, 7, 8, 9] rfl)
                                      · skip
                                        exfalso; omega
                            exact lp167 _ (0) (by omega) (Nat.lt_succ_self _) _ _ _ hW hS (lv_sub hl [0, 1, 2, 3, 4, 5, 6, 7, 8] rfl)
                        · skip
                          refine lv_iload hx hb dX2_share_105 (lv_at hl 1 rfl) ?_
                          refine lv_iload_n hx hb dX2_share_107 rfl (lv_at hl 6 rfl) ?_
                          refine rl_i2l hx hb (sum) (by omega) (by omega) dX2_share_108 ?_
                          refine lv_iload hx hb dX2_share_109 (lv_at hl 3 rfl) ?_
                          refine ri_if_eq (tgt := 118) hx hb (by unfold inR; omega) dX2_share_111 (by decide) (fun h46 => ?_) (fun h46 => ?_)
                          · skip
                            exfalso; omega
                          · skip
                            refine lv_iconst (v := iI (1)) hx hb dX2_share_114 rfl ?_
                            refine lv_goto (tgt := 125) hx hb dX2_share_115 (by decide) ?_
                            refine rl_i2l hx hb (dzN F N i) (by unfold dzN; first | rw [if_pos (by omega)]; rfl | rw [if_neg (by omega)]) (by omega) dX2_share_125 ?_
                            refine rl_mul hx hb dX2_share_126 ?_
                            refine lv_iload_n hx hb dX2_share_127 rfl (lv_at hl 2 rfl) ?_
                            refine rl_i2l hx hb (dsN F N) (by omega) (by omega) dX2_share_128 ?_
                            refine rl_div hx hb (by omega) (by omega) (by omega) dX2_share_129 ?_
                            refine rl_l2i hx hb dX2_share_130 ?_
                            refine ri_isub hx hb dX2_share_131 ?_
                            refine ri_top (b := (sum : Int) - (smB (fun i => sum * dzN F N i / dsN F N) (i + 1) : Nat)) (by rw [smB]; omega) ?_
                            refine lv_istore (lv' := [(5, .int (iI ((sum : Int) - (smB (fun i => sum * dzN F N i / dsN F N) (i + 1) : Nat)))), (6, .int (iI (i))), (3, .int (iI ((dsN F N : Nat)))), (4, .int (iI (1))), (0, .ref o), (1, .int (iI (cv))), (2, .int (iI (sum)))]) hx hb dX2_share_132 hl (by decide) rfl (fun ls hl => ?_)
                            refine lv_iinc (v := iI ((i + 1 : Nat))) (lv' := [(6, .int (iI ((i + 1 : Nat)))), (5, .int (iI ((sum : Int) - (smB (fun i => sum * dzN F N i / dsN F N) (i + 1) : Nat)))), (3, .int (iI ((dsN F N : Nat)))), (4, .int (iI (1))), (0, .ref o), (1, .int (iI (cv))), (2, .int (iI (sum)))]) hx hb dX2_share_134 hl (k := 1) rfl (iI_succ _) (by decide) rfl (fun ls hl => ?_)
                            refine lv_goto (tgt := 96) hx hb dX2_share_137 (by decide) ?_
                            exact ih96 (i + 1) (by omega) (by omega) _ _ _ hW hS (lv_sub hl [0, 1, 2, 3, 4, 5, 6] rfl)
                    have hl : lv_has ls 12 [(6, .int (iI (0))), (5, .int (iI ((sum : Int) - (smB (fun i => sum * dzN F N i / dsN F N) 0 : Nat)))), (3, .int (iI ((dsN F N : Nat)))), (4, .int (iI (1))), (0, .ref o), (1, .int (iI (cv))), (2, .int (iI (sum)))] := by rw [show ((sum : Int) - (smB (fun i => sum * dzN F N i / dsN F N) 0 : Nat)) = sum from by simp [smB]]; exact hl
                    exact lp96 _ (0) (by omega) (Nat.lt_succ_self _) _ _ _ hW hS (lv_sub hl [0, 1, 2, 3, 4, 5, 6] rfl)
              · skip
                refine lv_iload_n hx hb dX2_share_53 rfl (lv_at hl 1 rfl) ?_
                refine lv_aload_n hx hb dX2_share_54 rfl (lv_at hl 2 rfl) ?_
                refine m_get hx hb hts hown hK hW 12 (by decide) q986 rfl (v := .ref (ad 12)) rfl dX2_share_55 ?_
                refine lv_iload hx hb dX2_share_58 (lv_at hl 0 rfl) ?_
                refine h_iald hx hb hK hW.a12 (i) (by omega) (by omega) (by decide) dX2_share_60 ?_
                have b47 : N 12 (i) ≤ 31 := hN 12 (i)
                refine ri_iadd hx hb dX2_share_61 ?_
                refine ri_top (b := (smB (N 12) (i + 1) : Nat)) (by rfl) ?_
                refine lv_istore_n (lv' := [(3, .int (iI ((smB (N 12) (i + 1) : Nat)))), (4, .int (iI (i))), (0, .ref o), (1, .int (iI (cv))), (2, .int (iI (sum)))]) hx hb dX2_share_62 rfl hl (by decide) rfl (fun ls hl => ?_)
                refine lv_iinc (v := iI ((i + 1 : Nat))) (lv' := [(4, .int (iI ((i + 1 : Nat)))), (3, .int (iI ((smB (N 12) (i + 1) : Nat)))), (0, .ref o), (1, .int (iI (cv))), (2, .int (iI (sum)))]) hx hb dX2_share_63 hl (k := 1) rfl (iI_succ _) (by decide) rfl (fun ls hl => ?_)
                refine lv_goto (tgt := 44) hx hb dX2_share_66 (by decide) ?_
                exact ih44 (i + 1) (by omega) (by omega) _ _ _ hW hS (lv_sub hl [0, 1, 2, 3, 4] rfl)
          exact lp44 _ (0) (by omega) (Nat.lt_succ_self _) _ _ _ hW hS (lv_sub hl [0, 1, 2, 3, 4] rfl)
        · skip
          exfalso; omega
    · skip
      exfalso; omega

set_option maxHeartbeats 4000000 in
set_option maxRecDepth 100000 in
theorem mm_share_x (l : Launch) (D : va_G) (cA : Nat → ClassId) (A : Nat → Prop) (o : Nat) (ad : Nat → Nat) (F G : Nat → Nat) (N X : Nat → Nat → Nat) (Z : Nat → Int) (K : Nat) (hKb : K ≤ 1000000) (hF : FB F) (hG : GB G) (hN : NB N) (hX : XB X) (hZ : ZB K Z) (cv sum : Int) (q_cv : inR cv) (q_sum : inR sum) (hbad : ¬ ∃ a : Nat, cv = a ∧ a < F 5) : Met l yX2_share (ws_ yX2_share cX2_share 12 (some .int)) ({ frames := 2, cells := 0, slots := 0, locals := 50 }) (Pk D cA [.ref o, .int (iI (cv)), .int (iI (sum))] (MW D cA A o ad F G N X Z)) (Qi (fun z H' => MW D cA A o ad (va_up (va_up F 0 0) 0 1) G N X Z H') A) 0 0 (A) := by
  refine Met.ofW (cc := cX2_share) (maxL := 12) (ret := (some .int)) (by decide) rfl ?_
  intro p e s m args below meth c s₁ B hml hv
  obtain ⟨rfl, hK, hW⟩ := hv
  have hx := B.exec
  have hb := B.bytes
  have hr := B.returns
  have hts := atoms_spec (ws := ws_ yX2_share cX2_share 12 (some .int)) B.pre
  have hts : ∀ w ∈ lw_all, w.before _ s = true := fun w h => hts w (List.mem_cons_of_mem _ h)
  have hown : s.vm.findClass RX2 = some m.cls := findClass_of_methodNamed B.named
  have hlocks := B.notSynchronized
  have hl := lv_entry ([.ref o, .int (iI (cv)), .int (iI (sum))]) (n := 12) (Nat.le_of_ble_eq_true rfl)
  rw [lg_entry_eq]
  generalize (lg_sl ([.ref o, .int (iI (cv)), .int (iI (sum))]) ++ List.replicate (12 - (lg_sl ([.ref o, .int (iI (cv)), .int (iI (sum))])).length) Slot.unset).toArray = ls at hl ⊢
  have hl : lv_has ls 12 [(0, .ref o), (1, .int (iI (cv))), (2, .int (iI (sum)))] := hl
  have hS : va_S A s.heap s.heap [] := va_S.rf
  have q_cv1 := q_cv
  unfold inR at q_cv1
  have q_sum1 := q_sum
  unfold inR at q_sum1
  have hF5 : F 5 ≤ 40 := hF 5
  refine lv_aload_n hx hb dX2_share_0 rfl (lv_at hl 0 rfl) ?_
  refine lv_iconst (v := iI (0)) hx hb dX2_share_1 rfl ?_
  refine m_put hx hb hts hown hK hW hS 0 (by decide) q974 rfl rfl rfl (0) rfl dX2_share_2 (fun H locs hW hS => ?_)
  have hF : FB (va_up (F) 0 (0)) := hF.up (by show 0 ≤ 2; omega)
  have e1 : va_up F 0 0 1 = F 1 := rfl
  have e2 : va_up F 0 0 2 = F 2 := rfl
  have e3 : va_up F 0 0 3 = F 3 := rfl
  have e4 : va_up F 0 0 4 = F 4 := rfl
  have e5 : va_up F 0 0 5 = F 5 := rfl
  refine lv_iload_n hx hb dX2_share_5 rfl (lv_at hl 1 rfl) ?_
  refine ri_if_lt (tgt := 17) hx hb (by unfold inR; omega) dX2_share_6 (by decide) (fun h1 => ?_) (fun h1 => ?_)
  · skip
    refine lv_aload_n hx hb dX2_share_17 rfl (lv_at hl 0 rfl) ?_
    refine rc_I (W.runV (As := []) (rest := []) ⟨hx, hb, hml, hown, hts⟩ (mm_fail l D cA A o ad (va_up (F) 0 (0)) G N X Z K hKb hF hG hN hX hZ  ) (cwV 0 hts (lw_V q1110 q1112 qs17 q62 q1113) rfl rfl rfl (by decide +kernel) ⟨Nat.le_of_ble_eq_true rfl, Nat.le_of_ble_eq_true rfl⟩) (preV hK hW.1 rfl hW) rfl rfl hl.1 rfl (lv_room (Nat.le_of_ble_eq_true rfl)) dX2_share_18 ⟨Nat.le_of_ble_eq_true rfl, Nat.le_of_ble_eq_true rfl⟩) hS (fun _ _ h => h) (fun _ h => h) (fun z H locs hq hS hz hk => ?_)
    obtain ⟨rfl, hW⟩ := hq
    exact W.iret hx hb hr (fun t ht hWm => ⟨⟨_, rfl, by rw [ht]; exact hW⟩, hS.F ht⟩) hS.2.2 dX2_share_21
  · skip
    refine lv_iload_n hx hb dX2_share_9 rfl (lv_at hl 1 rfl) ?_
    refine lv_aload_n hx hb dX2_share_10 rfl (lv_at hl 0 rfl) ?_
    refine m_get hx hb hts hown hK hW 5 (by decide) q979 rfl (v := .int (iI (F 5))) rfl dX2_share_11 ?_
    have b2 : F 5 ≤ 40 := hF 5
    refine ri_icmp_lt (tgt := 22) hx hb (by unfold inR; omega) (by unfold inR; omega) dX2_share_14 (by decide) (fun h3 => ?_) (fun h3 => ?_)
    · skip
      exact absurd ⟨cv.toNat, by omega, by omega⟩ hbad
    · skip
      refine lv_aload_n hx hb dX2_share_17 rfl (lv_at hl 0 rfl) ?_
      refine rc_I (W.runV (As := []) (rest := []) ⟨hx, hb, hml, hown, hts⟩ (mm_fail l D cA A o ad (va_up (F) 0 (0)) G N X Z K hKb hF hG hN hX hZ  ) (cwV 0 hts (lw_V q1110 q1112 qs17 q62 q1113) rfl rfl rfl (by decide +kernel) ⟨Nat.le_of_ble_eq_true rfl, Nat.le_of_ble_eq_true rfl⟩) (preV hK hW.1 rfl hW) rfl rfl hl.1 rfl (lv_room (Nat.le_of_ble_eq_true rfl)) dX2_share_18 ⟨Nat.le_of_ble_eq_true rfl, Nat.le_of_ble_eq_true rfl⟩) hS (fun _ _ h => h) (fun _ h => h) (fun z H locs hq hS hz hk => ?_)
      obtain ⟨rfl, hW⟩ := hq
      exact W.iret hx hb hr (fun t ht hWm => ⟨⟨_, rfl, by rw [ht]; exact hW⟩, hS.F ht⟩) hS.2.2 dX2_share_21

set_option maxHeartbeats 4000000 in
set_option maxRecDepth 100000 in
theorem mm_share_y (l : Launch) (D : va_G) (cA : Nat → ClassId) (A : Nat → Prop) (o : Nat) (ad : Nat → Nat) (F G : Nat → Nat) (N X : Nat → Nat → Nat) (Z : Nat → Int) (K : Nat) (hKb : K ≤ 1000000) (hF : FB F) (hG : GB G) (hN : NB N) (hX : XB X) (hZ : ZB K Z) (cv : Nat) (sum : Int) (q_sum : inR sum) (hc5 : cv < F 5) (hbad : ¬ (0 ≤ sum ∧ sum ≤ 10000000)) : Met l yX2_share (ws_ yX2_share cX2_share 12 (some .int)) ({ frames := 1, cells := 0, slots := 0, locals := 30 }) (Pk D cA [.ref o, .int (iI (cv)), .int (iI (sum))] (MW D cA A o ad F G N X Z)) (Qi (fun z H' => MW D cA A o ad (va_up (va_up F 0 0) 0 2) G N X Z H') A) 0 0 (A) := by
  refine Met.ofW (cc := cX2_share) (maxL := 12) (ret := (some .int)) (by decide) rfl ?_
  intro p e s m args below meth c s₁ B hml hv
  obtain ⟨rfl, hK, hW⟩ := hv
  have hx := B.exec
  have hb := B.bytes
  have hr := B.returns
  have hts := atoms_spec (ws := ws_ yX2_share cX2_share 12 (some .int)) B.pre
  have hts : ∀ w ∈ lw_all, w.before _ s = true := fun w h => hts w (List.mem_cons_of_mem _ h)
  have hown : s.vm.findClass RX2 = some m.cls := findClass_of_methodNamed B.named
  have hlocks := B.notSynchronized
  have hl := lv_entry ([.ref o, .int (iI (cv)), .int (iI (sum))]) (n := 12) (Nat.le_of_ble_eq_true rfl)
  rw [lg_entry_eq]
  generalize (lg_sl ([.ref o, .int (iI (cv)), .int (iI (sum))]) ++ List.replicate (12 - (lg_sl ([.ref o, .int (iI (cv)), .int (iI (sum))])).length) Slot.unset).toArray = ls at hl ⊢
  have hl : lv_has ls 12 [(0, .ref o), (1, .int (iI (cv))), (2, .int (iI (sum)))] := hl
  have hS : va_S A s.heap s.heap [] := va_S.rf
  have q_sum1 := q_sum
  unfold inR at q_sum1
  have hF5 : F 5 ≤ 40 := hF 5
  refine lv_aload_n hx hb dX2_share_0 rfl (lv_at hl 0 rfl) ?_
  refine lv_iconst (v := iI (0)) hx hb dX2_share_1 rfl ?_
  refine m_put hx hb hts hown hK hW hS 0 (by decide) q974 rfl rfl rfl (0) rfl dX2_share_2 (fun H locs hW hS => ?_)
  have hF : FB (va_up (F) 0 (0)) := hF.up (by show 0 ≤ 2; omega)
  have e1 : va_up F 0 0 1 = F 1 := rfl
  have e2 : va_up F 0 0 2 = F 2 := rfl
  have e3 : va_up F 0 0 3 = F 3 := rfl
  have e4 : va_up F 0 0 4 = F 4 := rfl
  have e5 : va_up F 0 0 5 = F 5 := rfl
  refine lv_iload_n hx hb dX2_share_5 rfl (lv_at hl 1 rfl) ?_
  refine ri_if_lt (tgt := 17) hx hb (by unfold inR; omega) dX2_share_6 (by decide) (fun h1 => ?_) (fun h1 => ?_)
  · skip
    exfalso; omega
  · skip
    refine lv_iload_n hx hb dX2_share_9 rfl (lv_at hl 1 rfl) ?_
    refine lv_aload_n hx hb dX2_share_10 rfl (lv_at hl 0 rfl) ?_
    refine m_get hx hb hts hown hK hW 5 (by decide) q979 rfl (v := .int (iI (F 5))) rfl dX2_share_11 ?_
    have b2 : F 5 ≤ 40 := hF 5
    refine ri_icmp_lt (tgt := 22) hx hb (by unfold inR; omega) (by unfold inR; omega) dX2_share_14 (by decide) (fun h3 => ?_) (fun h3 => ?_)
    · skip
      refine lv_iload_n hx hb dX2_share_22 rfl (lv_at hl 2 rfl) ?_
      refine ri_if_lt (tgt := 32) hx hb (by unfold inR; omega) dX2_share_23 (by decide) (fun h4 => ?_) (fun h4 => ?_)
      · skip
        refine lv_aload_n hx hb dX2_share_32 rfl (lv_at hl 0 rfl) ?_
        refine lv_iconst (v := iI (2)) hx hb dX2_share_33 rfl ?_
        refine m_put hx hb hts hown hK hW hS 0 (by decide) q974 rfl rfl rfl (2) rfl dX2_share_34 (fun H locs hW hS => ?_)
        have hF : FB (va_up (va_up (F) 0 (0)) 0 (2)) := hF.up (by show 2 ≤ 2; omega)
        refine lv_iconst (v := iI (0)) hx hb dX2_share_37 rfl ?_
        exact W.iret hx hb hr (fun t ht hWm => ⟨⟨_, rfl, by rw [ht]; exact hW⟩, hS.F ht⟩) hS.2.2 dX2_share_38
      · skip
        refine lv_iload_n hx hb dX2_share_26 rfl (lv_at hl 2 rfl) ?_
        refine lv_ldc (v := iI (10000000)) hx hb hown (show (Cond.constant RX2 223 (iI (10000000))).before _ s = true from hts _ q1262) dX2_share_27 ?_
        refine ri_icmp_le (tgt := 39) hx hb (by unfold inR; omega) (by unfold inR; omega) dX2_share_29 (by decide) (fun h5 => ?_) (fun h5 => ?_)
        · skip
          exfalso; omega
        · skip
          refine lv_aload_n hx hb dX2_share_32 rfl (lv_at hl 0 rfl) ?_
          refine lv_iconst (v := iI (2)) hx hb dX2_share_33 rfl ?_
          refine m_put hx hb hts hown hK hW hS 0 (by decide) q974 rfl rfl rfl (2) rfl dX2_share_34 (fun H locs hW hS => ?_)
          have hF : FB (va_up (va_up (F) 0 (0)) 0 (2)) := hF.up (by show 2 ≤ 2; omega)
          refine lv_iconst (v := iI (0)) hx hb dX2_share_37 rfl ?_
          exact W.iret hx hb hr (fun t ht hWm => ⟨⟨_, rfl, by rw [ht]; exact hW⟩, hS.F ht⟩) hS.2.2 dX2_share_38
    · skip
      exfalso; omega

set_option maxHeartbeats 4000000 in
set_option maxRecDepth 100000 in
theorem mm_init (l : Launch) (D : va_G) (cA : Nat → ClassId) (A : Nat → Prop) (o sz : Nat) : Met l yX2_init (ws_ yX2_init cX2_init 1 none) ({ frames := 1, cells := 27, slots := 4078, locals := 30 }) (Pk D cA [.ref o] (fun H => va_at D CL (o, .inr (0, [.int (iI 0), .int (iI 0), .int (iI 0), .int (iI 0), .int (iI 0), .int (iI 0), .null, .null, .null, .null, .null, .null, .null, .null, .null, .null, .null, .null, .null, .null, .null, .null, .null, .null, .null, .null, .null, .null, .null, .null, .null, .null, .int (iI 0), .int (iI 0), .int (iI 0), .int (iI 0), .int (iI 0), .null])) H ∧ A o ∧ H.size = sz ∧ ∀ q, sz ≤ q → A q)) (Qn (fun H' => ∃ ad, MW D cA A o ad (fun _ => 0) G0 N0 (fun _ _ => 0) (fun _ => 0) H' ∧ ∀ k, isA k → sz ≤ ad k) A) 27 4078 (A) := by
  refine Met.ofW (cc := cX2_init) (maxL := 1) (ret := none) (by decide) rfl ?_
  intro p e s m args below meth c s₁ B hml hv
  obtain ⟨rfl, hK, hW⟩ := hv
  have hx := B.exec
  have hb := B.bytes
  have hr := B.returns
  have hts := atoms_spec (ws := ws_ yX2_init cX2_init 1 none) B.pre
  have hts : ∀ w ∈ lw_all, w.before _ s = true := fun w h => hts w (List.mem_cons_of_mem _ h)
  have hown : s.vm.findClass RX2 = some m.cls := findClass_of_methodNamed B.named
  have hlocks := B.notSynchronized
  have hin : meth.name = "<init>" := (name_of_methodNamed B.named B.method).1
  have hl := lv_entry ([.ref o]) (n := 1) (Nat.le_of_ble_eq_true rfl)
  rw [lg_entry_eq]
  generalize (lg_sl ([.ref o]) ++ List.replicate (1 - (lg_sl ([.ref o])).length) Slot.unset).toArray = ls at hl ⊢
  have hl : lv_has ls 1 [(0, .ref o)] := hl
  obtain ⟨hP, hAo, hz, hAs⟩ := hW
  have hS : va_S A s.heap s.heap [] := va_S.rf
  have hI : IA D cA A o sz 0 (fun _ => 0) s.heap := ⟨fun k _ h => absurd h (Nat.not_lt_zero _), fun k _ _ _ h => absurd h (Nat.not_lt_zero _)⟩
  have hsz : sz ≤ s.heap.size := by omega
  have hol : o < s.heap.size := hP.lt
  refine lv_aload_n hx hb dX2_init_0 rfl (lv_at hl 0 rfl) ?_
  refine W.objInit hx hb hown (hts _ q973) (hts _ q80) (hts _ q81) rfl (by rw [hml]; exact hl.1) rfl dX2_init_1 (Nat.le_of_ble_eq_true rfl) (Nat.le_of_ble_eq_true rfl) ?_
  refine W.eq (g2 := F0 m 4 ls []) rfl ?_
  refine lv_aload_n hx hb dX2_init_4 rfl (lv_at hl 0 rfl) ?_
  refine lv_bipush (v := iI (10)) hx hb dX2_init_5 (by decide) ?_
  refine h_newaI hx hb (hts _ q443) hK hS 10 rfl (by decide) (Nat.le_of_ble_eq_true rfl) (Nat.le_of_ble_eq_true rfl) dX2_init_7 (fun q6 H hq hP6 o1 z1 hS => ?_)
  refine W.widen (k := 1) (n := 10) (Nat.le_of_ble_eq_true rfl) (Nat.le_of_ble_eq_true rfl) ?_
  have hI : IA D cA A o sz 1 (va_up (fun _ => 0) 6 q6) H := hI.add (by unfold isA; omega) rfl hq hsz hol (by rw [hq]; exact hAs _ hsz) o1 hP6
  have hP : va_at D CL (o, .inr (0, [.int (iI 0), .int (iI 0), .int (iI 0), .int (iI 0), .int (iI 0), .int (iI 0), .null, .null, .null, .null, .null, .null, .null, .null, .null, .null, .null, .null, .null, .null, .null, .null, .null, .null, .null, .null, .null, .null, .null, .null, .null, .null, .int (iI 0), .int (iI 0), .int (iI 0), .int (iI 0), .int (iI 0), .null])) H := hP.kept (o1 _ hol)
  have hsz : sz ≤ H.size := by omega
  have hol : o < H.size := by omega
  refine h_putF hx hb hts in_X2 tyX2 tyX2_ok nmX2 hown hK hP hS hAo rfl 6 (by decide) (hts _ q980) rfl rfl hin rfl rfl rfl rfl (Nat.le_of_ble_eq_true rfl) dX2_init_9 (fun H locs hP oq z2 hS => ?_)
  have hP : va_at D CL (o, .inr (0, [.int (iI 0), .int (iI 0), .int (iI 0), .int (iI 0), .int (iI 0), .int (iI 0), .ref q6, .null, .null, .null, .null, .null, .null, .null, .null, .null, .null, .null, .null, .null, .null, .null, .null, .null, .null, .null, .null, .null, .null, .null, .null, .null, .int (iI 0), .int (iI 0), .int (iI 0), .int (iI 0), .int (iI 0), .null])) H := hP
  have hI := hI.kept oq
  have hsz : sz ≤ H.size := by omega
  have hol : o < H.size := by omega
  refine lv_aload_n hx hb dX2_init_12 rfl (lv_at hl 0 rfl) ?_
  refine lv_bipush (v := iI (16)) hx hb dX2_init_13 (by decide) ?_
  refine h_newaI hx hb (hts _ q443) hK hS 16 rfl (by decide) (Nat.le_of_ble_eq_true rfl) (Nat.le_of_ble_eq_true rfl) dX2_init_15 (fun q7 H hq hP7 o1 z1 hS => ?_)
  refine W.widen (k := 2) (n := 26) (Nat.le_of_ble_eq_true rfl) (Nat.le_of_ble_eq_true rfl) ?_
  have hI : IA D cA A o sz 2 (va_up (va_up (fun _ => 0) 6 q6) 7 q7) H := hI.add (by unfold isA; omega) rfl hq hsz hol (by rw [hq]; exact hAs _ hsz) o1 hP7
  have hP : va_at D CL (o, .inr (0, [.int (iI 0), .int (iI 0), .int (iI 0), .int (iI 0), .int (iI 0), .int (iI 0), .ref q6, .null, .null, .null, .null, .null, .null, .null, .null, .null, .null, .null, .null, .null, .null, .null, .null, .null, .null, .null, .null, .null, .null, .null, .null, .null, .int (iI 0), .int (iI 0), .int (iI 0), .int (iI 0), .int (iI 0), .null])) H := hP.kept (o1 _ hol)
  have hsz : sz ≤ H.size := by omega
  have hol : o < H.size := by omega
  refine h_putF hx hb hts in_X2 tyX2 tyX2_ok nmX2 hown hK hP hS hAo rfl 7 (by decide) (hts _ q981) rfl rfl hin rfl rfl rfl rfl (Nat.le_of_ble_eq_true rfl) dX2_init_17 (fun H locs hP oq z2 hS => ?_)
  have hP : va_at D CL (o, .inr (0, [.int (iI 0), .int (iI 0), .int (iI 0), .int (iI 0), .int (iI 0), .int (iI 0), .ref q6, .ref q7, .null, .null, .null, .null, .null, .null, .null, .null, .null, .null, .null, .null, .null, .null, .null, .null, .null, .null, .null, .null, .null, .null, .null, .null, .int (iI 0), .int (iI 0), .int (iI 0), .int (iI 0), .int (iI 0), .null])) H := hP
  have hI := hI.kept oq
  have hsz : sz ≤ H.size := by omega
  have hol : o < H.size := by omega
  refine lv_aload_n hx hb dX2_init_20 rfl (lv_at hl 0 rfl) ?_
  refine lv_bipush (v := iI (16)) hx hb dX2_init_21 (by decide) ?_
  refine h_newaI hx hb (hts _ q443) hK hS 16 rfl (by decide) (Nat.le_of_ble_eq_true rfl) (Nat.le_of_ble_eq_true rfl) dX2_init_23 (fun q8 H hq hP8 o1 z1 hS => ?_)
  refine W.widen (k := 3) (n := 42) (Nat.le_of_ble_eq_true rfl) (Nat.le_of_ble_eq_true rfl) ?_
  have hI : IA D cA A o sz 3 (va_up (va_up (va_up (fun _ => 0) 6 q6) 7 q7) 8 q8) H := hI.add (by unfold isA; omega) rfl hq hsz hol (by rw [hq]; exact hAs _ hsz) o1 hP8
  have hP : va_at D CL (o, .inr (0, [.int (iI 0), .int (iI 0), .int (iI 0), .int (iI 0), .int (iI 0), .int (iI 0), .ref q6, .ref q7, .null, .null, .null, .null, .null, .null, .null, .null, .null, .null, .null, .null, .null, .null, .null, .null, .null, .null, .null, .null, .null, .null, .null, .null, .int (iI 0), .int (iI 0), .int (iI 0), .int (iI 0), .int (iI 0), .null])) H := hP.kept (o1 _ hol)
  have hsz : sz ≤ H.size := by omega
  have hol : o < H.size := by omega
  refine h_putF hx hb hts in_X2 tyX2 tyX2_ok nmX2 hown hK hP hS hAo rfl 8 (by decide) (hts _ q982) rfl rfl hin rfl rfl rfl rfl (Nat.le_of_ble_eq_true rfl) dX2_init_25 (fun H locs hP oq z2 hS => ?_)
  have hP : va_at D CL (o, .inr (0, [.int (iI 0), .int (iI 0), .int (iI 0), .int (iI 0), .int (iI 0), .int (iI 0), .ref q6, .ref q7, .ref q8, .null, .null, .null, .null, .null, .null, .null, .null, .null, .null, .null, .null, .null, .null, .null, .null, .null, .null, .null, .null, .null, .null, .null, .int (iI 0), .int (iI 0), .int (iI 0), .int (iI 0), .int (iI 0), .null])) H := hP
  have hI := hI.kept oq
  have hsz : sz ≤ H.size := by omega
  have hol : o < H.size := by omega
  refine lv_aload_n hx hb dX2_init_28 rfl (lv_at hl 0 rfl) ?_
  refine lv_sipush (v := iI (160)) hx hb dX2_init_29 (by decide) ?_
  refine h_newaI hx hb (hts _ q443) hK hS 160 rfl (by decide) (Nat.le_of_ble_eq_true rfl) (Nat.le_of_ble_eq_true rfl) dX2_init_32 (fun q9 H hq hP9 o1 z1 hS => ?_)
  refine W.widen (k := 4) (n := 202) (Nat.le_of_ble_eq_true rfl) (Nat.le_of_ble_eq_true rfl) ?_
  have hI : IA D cA A o sz 4 (va_up (va_up (va_up (va_up (fun _ => 0) 6 q6) 7 q7) 8 q8) 9 q9) H := hI.add (by unfold isA; omega) rfl hq hsz hol (by rw [hq]; exact hAs _ hsz) o1 hP9
  have hP : va_at D CL (o, .inr (0, [.int (iI 0), .int (iI 0), .int (iI 0), .int (iI 0), .int (iI 0), .int (iI 0), .ref q6, .ref q7, .ref q8, .null, .null, .null, .null, .null, .null, .null, .null, .null, .null, .null, .null, .null, .null, .null, .null, .null, .null, .null, .null, .null, .null, .null, .int (iI 0), .int (iI 0), .int (iI 0), .int (iI 0), .int (iI 0), .null])) H := hP.kept (o1 _ hol)
  have hsz : sz ≤ H.size := by omega
  have hol : o < H.size := by omega
  refine h_putF hx hb hts in_X2 tyX2 tyX2_ok nmX2 hown hK hP hS hAo rfl 9 (by decide) (hts _ q983) rfl rfl hin rfl rfl rfl rfl (Nat.le_of_ble_eq_true rfl) dX2_init_34 (fun H locs hP oq z2 hS => ?_)
  have hP : va_at D CL (o, .inr (0, [.int (iI 0), .int (iI 0), .int (iI 0), .int (iI 0), .int (iI 0), .int (iI 0), .ref q6, .ref q7, .ref q8, .ref q9, .null, .null, .null, .null, .null, .null, .null, .null, .null, .null, .null, .null, .null, .null, .null, .null, .null, .null, .null, .null, .null, .null, .int (iI 0), .int (iI 0), .int (iI 0), .int (iI 0), .int (iI 0), .null])) H := hP
  have hI := hI.kept oq
  have hsz : sz ≤ H.size := by omega
  have hol : o < H.size := by omega
  refine lv_aload_n hx hb dX2_init_37 rfl (lv_at hl 0 rfl) ?_
  refine lv_sipush (v := iI (160)) hx hb dX2_init_38 (by decide) ?_
  refine h_newaI hx hb (hts _ q443) hK hS 160 rfl (by decide) (Nat.le_of_ble_eq_true rfl) (Nat.le_of_ble_eq_true rfl) dX2_init_41 (fun q10 H hq hP10 o1 z1 hS => ?_)
  refine W.widen (k := 5) (n := 362) (Nat.le_of_ble_eq_true rfl) (Nat.le_of_ble_eq_true rfl) ?_
  have hI : IA D cA A o sz 5 (va_up (va_up (va_up (va_up (va_up (fun _ => 0) 6 q6) 7 q7) 8 q8) 9 q9) 10 q10) H := hI.add (by unfold isA; omega) rfl hq hsz hol (by rw [hq]; exact hAs _ hsz) o1 hP10
  have hP : va_at D CL (o, .inr (0, [.int (iI 0), .int (iI 0), .int (iI 0), .int (iI 0), .int (iI 0), .int (iI 0), .ref q6, .ref q7, .ref q8, .ref q9, .null, .null, .null, .null, .null, .null, .null, .null, .null, .null, .null, .null, .null, .null, .null, .null, .null, .null, .null, .null, .null, .null, .int (iI 0), .int (iI 0), .int (iI 0), .int (iI 0), .int (iI 0), .null])) H := hP.kept (o1 _ hol)
  have hsz : sz ≤ H.size := by omega
  have hol : o < H.size := by omega
  refine h_putF hx hb hts in_X2 tyX2 tyX2_ok nmX2 hown hK hP hS hAo rfl 10 (by decide) (hts _ q984) rfl rfl hin rfl rfl rfl rfl (Nat.le_of_ble_eq_true rfl) dX2_init_43 (fun H locs hP oq z2 hS => ?_)
  have hP : va_at D CL (o, .inr (0, [.int (iI 0), .int (iI 0), .int (iI 0), .int (iI 0), .int (iI 0), .int (iI 0), .ref q6, .ref q7, .ref q8, .ref q9, .ref q10, .null, .null, .null, .null, .null, .null, .null, .null, .null, .null, .null, .null, .null, .null, .null, .null, .null, .null, .null, .null, .null, .int (iI 0), .int (iI 0), .int (iI 0), .int (iI 0), .int (iI 0), .null])) H := hP
  have hI := hI.kept oq
  have hsz : sz ≤ H.size := by omega
  have hol : o < H.size := by omega
  refine lv_aload_n hx hb dX2_init_46 rfl (lv_at hl 0 rfl) ?_
  refine lv_sipush (v := iI (160)) hx hb dX2_init_47 (by decide) ?_
  refine h_newaI hx hb (hts _ q443) hK hS 160 rfl (by decide) (Nat.le_of_ble_eq_true rfl) (Nat.le_of_ble_eq_true rfl) dX2_init_50 (fun q11 H hq hP11 o1 z1 hS => ?_)
  refine W.widen (k := 6) (n := 522) (Nat.le_of_ble_eq_true rfl) (Nat.le_of_ble_eq_true rfl) ?_
  have hI : IA D cA A o sz 6 (va_up (va_up (va_up (va_up (va_up (va_up (fun _ => 0) 6 q6) 7 q7) 8 q8) 9 q9) 10 q10) 11 q11) H := hI.add (by unfold isA; omega) rfl hq hsz hol (by rw [hq]; exact hAs _ hsz) o1 hP11
  have hP : va_at D CL (o, .inr (0, [.int (iI 0), .int (iI 0), .int (iI 0), .int (iI 0), .int (iI 0), .int (iI 0), .ref q6, .ref q7, .ref q8, .ref q9, .ref q10, .null, .null, .null, .null, .null, .null, .null, .null, .null, .null, .null, .null, .null, .null, .null, .null, .null, .null, .null, .null, .null, .int (iI 0), .int (iI 0), .int (iI 0), .int (iI 0), .int (iI 0), .null])) H := hP.kept (o1 _ hol)
  have hsz : sz ≤ H.size := by omega
  have hol : o < H.size := by omega
  refine h_putF hx hb hts in_X2 tyX2 tyX2_ok nmX2 hown hK hP hS hAo rfl 11 (by decide) (hts _ q985) rfl rfl hin rfl rfl rfl rfl (Nat.le_of_ble_eq_true rfl) dX2_init_52 (fun H locs hP oq z2 hS => ?_)
  have hP : va_at D CL (o, .inr (0, [.int (iI 0), .int (iI 0), .int (iI 0), .int (iI 0), .int (iI 0), .int (iI 0), .ref q6, .ref q7, .ref q8, .ref q9, .ref q10, .ref q11, .null, .null, .null, .null, .null, .null, .null, .null, .null, .null, .null, .null, .null, .null, .null, .null, .null, .null, .null, .null, .int (iI 0), .int (iI 0), .int (iI 0), .int (iI 0), .int (iI 0), .null])) H := hP
  have hI := hI.kept oq
  have hsz : sz ≤ H.size := by omega
  have hol : o < H.size := by omega
  refine lv_aload_n hx hb dX2_init_55 rfl (lv_at hl 0 rfl) ?_
  refine lv_bipush (v := iI (40)) hx hb dX2_init_56 (by decide) ?_
  refine h_newaI hx hb (hts _ q443) hK hS 40 rfl (by decide) (Nat.le_of_ble_eq_true rfl) (Nat.le_of_ble_eq_true rfl) dX2_init_58 (fun q12 H hq hP12 o1 z1 hS => ?_)
  refine W.widen (k := 7) (n := 562) (Nat.le_of_ble_eq_true rfl) (Nat.le_of_ble_eq_true rfl) ?_
  have hI : IA D cA A o sz 7 (va_up (va_up (va_up (va_up (va_up (va_up (va_up (fun _ => 0) 6 q6) 7 q7) 8 q8) 9 q9) 10 q10) 11 q11) 12 q12) H := hI.add (by unfold isA; omega) rfl hq hsz hol (by rw [hq]; exact hAs _ hsz) o1 hP12
  have hP : va_at D CL (o, .inr (0, [.int (iI 0), .int (iI 0), .int (iI 0), .int (iI 0), .int (iI 0), .int (iI 0), .ref q6, .ref q7, .ref q8, .ref q9, .ref q10, .ref q11, .null, .null, .null, .null, .null, .null, .null, .null, .null, .null, .null, .null, .null, .null, .null, .null, .null, .null, .null, .null, .int (iI 0), .int (iI 0), .int (iI 0), .int (iI 0), .int (iI 0), .null])) H := hP.kept (o1 _ hol)
  have hsz : sz ≤ H.size := by omega
  have hol : o < H.size := by omega
  refine h_putF hx hb hts in_X2 tyX2 tyX2_ok nmX2 hown hK hP hS hAo rfl 12 (by decide) (hts _ q986) rfl rfl hin rfl rfl rfl rfl (Nat.le_of_ble_eq_true rfl) dX2_init_60 (fun H locs hP oq z2 hS => ?_)
  have hP : va_at D CL (o, .inr (0, [.int (iI 0), .int (iI 0), .int (iI 0), .int (iI 0), .int (iI 0), .int (iI 0), .ref q6, .ref q7, .ref q8, .ref q9, .ref q10, .ref q11, .ref q12, .null, .null, .null, .null, .null, .null, .null, .null, .null, .null, .null, .null, .null, .null, .null, .null, .null, .null, .null, .int (iI 0), .int (iI 0), .int (iI 0), .int (iI 0), .int (iI 0), .null])) H := hP
  have hI := hI.kept oq
  have hsz : sz ≤ H.size := by omega
  have hol : o < H.size := by omega
  refine lv_aload_n hx hb dX2_init_63 rfl (lv_at hl 0 rfl) ?_
  refine lv_bipush (v := iI (16)) hx hb dX2_init_64 (by decide) ?_
  refine h_newaZ hx hb (hts _ q1089) hK hS 16 rfl (by decide) (Nat.le_of_ble_eq_true rfl) (Nat.le_of_ble_eq_true rfl) dX2_init_66 (fun q13 H hq hP13 o1 z1 hS => ?_)
  refine W.widen (k := 8) (n := 578) (Nat.le_of_ble_eq_true rfl) (Nat.le_of_ble_eq_true rfl) ?_
  have hI : IA D cA A o sz 8 (va_up (va_up (va_up (va_up (va_up (va_up (va_up (va_up (fun _ => 0) 6 q6) 7 q7) 8 q8) 9 q9) 10 q10) 11 q11) 12 q12) 13 q13) H := hI.add (by unfold isA; omega) rfl hq hsz hol (by rw [hq]; exact hAs _ hsz) o1 hP13
  have hP : va_at D CL (o, .inr (0, [.int (iI 0), .int (iI 0), .int (iI 0), .int (iI 0), .int (iI 0), .int (iI 0), .ref q6, .ref q7, .ref q8, .ref q9, .ref q10, .ref q11, .ref q12, .null, .null, .null, .null, .null, .null, .null, .null, .null, .null, .null, .null, .null, .null, .null, .null, .null, .null, .null, .int (iI 0), .int (iI 0), .int (iI 0), .int (iI 0), .int (iI 0), .null])) H := hP.kept (o1 _ hol)
  have hsz : sz ≤ H.size := by omega
  have hol : o < H.size := by omega
  refine h_putF hx hb hts in_X2 tyX2 tyX2_ok nmX2 hown hK hP hS hAo rfl 13 (by decide) (hts _ q987) rfl rfl hin rfl rfl rfl rfl (Nat.le_of_ble_eq_true rfl) dX2_init_68 (fun H locs hP oq z2 hS => ?_)
  have hP : va_at D CL (o, .inr (0, [.int (iI 0), .int (iI 0), .int (iI 0), .int (iI 0), .int (iI 0), .int (iI 0), .ref q6, .ref q7, .ref q8, .ref q9, .ref q10, .ref q11, .ref q12, .ref q13, .null, .null, .null, .null, .null, .null, .null, .null, .null, .null, .null, .null, .null, .null, .null, .null, .null, .null, .int (iI 0), .int (iI 0), .int (iI 0), .int (iI 0), .int (iI 0), .null])) H := hP
  have hI := hI.kept oq
  have hsz : sz ≤ H.size := by omega
  have hol : o < H.size := by omega
  refine lv_aload_n hx hb dX2_init_71 rfl (lv_at hl 0 rfl) ?_
  refine lv_bipush (v := iI (60)) hx hb dX2_init_72 (by decide) ?_
  refine h_newaI hx hb (hts _ q443) hK hS 60 rfl (by decide) (Nat.le_of_ble_eq_true rfl) (Nat.le_of_ble_eq_true rfl) dX2_init_74 (fun q14 H hq hP14 o1 z1 hS => ?_)
  refine W.widen (k := 9) (n := 638) (Nat.le_of_ble_eq_true rfl) (Nat.le_of_ble_eq_true rfl) ?_
  have hI : IA D cA A o sz 9 (va_up (va_up (va_up (va_up (va_up (va_up (va_up (va_up (va_up (fun _ => 0) 6 q6) 7 q7) 8 q8) 9 q9) 10 q10) 11 q11) 12 q12) 13 q13) 14 q14) H := hI.add (by unfold isA; omega) rfl hq hsz hol (by rw [hq]; exact hAs _ hsz) o1 hP14
  have hP : va_at D CL (o, .inr (0, [.int (iI 0), .int (iI 0), .int (iI 0), .int (iI 0), .int (iI 0), .int (iI 0), .ref q6, .ref q7, .ref q8, .ref q9, .ref q10, .ref q11, .ref q12, .ref q13, .null, .null, .null, .null, .null, .null, .null, .null, .null, .null, .null, .null, .null, .null, .null, .null, .null, .null, .int (iI 0), .int (iI 0), .int (iI 0), .int (iI 0), .int (iI 0), .null])) H := hP.kept (o1 _ hol)
  have hsz : sz ≤ H.size := by omega
  have hol : o < H.size := by omega
  refine h_putF hx hb hts in_X2 tyX2 tyX2_ok nmX2 hown hK hP hS hAo rfl 14 (by decide) (hts _ q988) rfl rfl hin rfl rfl rfl rfl (Nat.le_of_ble_eq_true rfl) dX2_init_76 (fun H locs hP oq z2 hS => ?_)
  have hP : va_at D CL (o, .inr (0, [.int (iI 0), .int (iI 0), .int (iI 0), .int (iI 0), .int (iI 0), .int (iI 0), .ref q6, .ref q7, .ref q8, .ref q9, .ref q10, .ref q11, .ref q12, .ref q13, .ref q14, .null, .null, .null, .null, .null, .null, .null, .null, .null, .null, .null, .null, .null, .null, .null, .null, .null, .int (iI 0), .int (iI 0), .int (iI 0), .int (iI 0), .int (iI 0), .null])) H := hP
  have hI := hI.kept oq
  have hsz : sz ≤ H.size := by omega
  have hol : o < H.size := by omega
  refine lv_aload_n hx hb dX2_init_79 rfl (lv_at hl 0 rfl) ?_
  refine lv_bipush (v := iI (60)) hx hb dX2_init_80 (by decide) ?_
  refine h_newaI hx hb (hts _ q443) hK hS 60 rfl (by decide) (Nat.le_of_ble_eq_true rfl) (Nat.le_of_ble_eq_true rfl) dX2_init_82 (fun q15 H hq hP15 o1 z1 hS => ?_)
  refine W.widen (k := 10) (n := 698) (Nat.le_of_ble_eq_true rfl) (Nat.le_of_ble_eq_true rfl) ?_
  have hI : IA D cA A o sz 10 (va_up (va_up (va_up (va_up (va_up (va_up (va_up (va_up (va_up (va_up (fun _ => 0) 6 q6) 7 q7) 8 q8) 9 q9) 10 q10) 11 q11) 12 q12) 13 q13) 14 q14) 15 q15) H := hI.add (by unfold isA; omega) rfl hq hsz hol (by rw [hq]; exact hAs _ hsz) o1 hP15
  have hP : va_at D CL (o, .inr (0, [.int (iI 0), .int (iI 0), .int (iI 0), .int (iI 0), .int (iI 0), .int (iI 0), .ref q6, .ref q7, .ref q8, .ref q9, .ref q10, .ref q11, .ref q12, .ref q13, .ref q14, .null, .null, .null, .null, .null, .null, .null, .null, .null, .null, .null, .null, .null, .null, .null, .null, .null, .int (iI 0), .int (iI 0), .int (iI 0), .int (iI 0), .int (iI 0), .null])) H := hP.kept (o1 _ hol)
  have hsz : sz ≤ H.size := by omega
  have hol : o < H.size := by omega
  refine h_putF hx hb hts in_X2 tyX2 tyX2_ok nmX2 hown hK hP hS hAo rfl 15 (by decide) (hts _ q989) rfl rfl hin rfl rfl rfl rfl (Nat.le_of_ble_eq_true rfl) dX2_init_84 (fun H locs hP oq z2 hS => ?_)
  have hP : va_at D CL (o, .inr (0, [.int (iI 0), .int (iI 0), .int (iI 0), .int (iI 0), .int (iI 0), .int (iI 0), .ref q6, .ref q7, .ref q8, .ref q9, .ref q10, .ref q11, .ref q12, .ref q13, .ref q14, .ref q15, .null, .null, .null, .null, .null, .null, .null, .null, .null, .null, .null, .null, .null, .null, .null, .null, .int (iI 0), .int (iI 0), .int (iI 0), .int (iI 0), .int (iI 0), .null])) H := hP
  have hI := hI.kept oq
  have hsz : sz ≤ H.size := by omega
  have hol : o < H.size := by omega
  refine lv_aload_n hx hb dX2_init_87 rfl (lv_at hl 0 rfl) ?_
  refine lv_bipush (v := iI (60)) hx hb dX2_init_88 (by decide) ?_
  refine h_newaI hx hb (hts _ q443) hK hS 60 rfl (by decide) (Nat.le_of_ble_eq_true rfl) (Nat.le_of_ble_eq_true rfl) dX2_init_90 (fun q16 H hq hP16 o1 z1 hS => ?_)
  refine W.widen (k := 11) (n := 758) (Nat.le_of_ble_eq_true rfl) (Nat.le_of_ble_eq_true rfl) ?_
  have hI : IA D cA A o sz 11 (va_up (va_up (va_up (va_up (va_up (va_up (va_up (va_up (va_up (va_up (va_up (fun _ => 0) 6 q6) 7 q7) 8 q8) 9 q9) 10 q10) 11 q11) 12 q12) 13 q13) 14 q14) 15 q15) 16 q16) H := hI.add (by unfold isA; omega) rfl hq hsz hol (by rw [hq]; exact hAs _ hsz) o1 hP16
  have hP : va_at D CL (o, .inr (0, [.int (iI 0), .int (iI 0), .int (iI 0), .int (iI 0), .int (iI 0), .int (iI 0), .ref q6, .ref q7, .ref q8, .ref q9, .ref q10, .ref q11, .ref q12, .ref q13, .ref q14, .ref q15, .null, .null, .null, .null, .null, .null, .null, .null, .null, .null, .null, .null, .null, .null, .null, .null, .int (iI 0), .int (iI 0), .int (iI 0), .int (iI 0), .int (iI 0), .null])) H := hP.kept (o1 _ hol)
  have hsz : sz ≤ H.size := by omega
  have hol : o < H.size := by omega
  refine h_putF hx hb hts in_X2 tyX2 tyX2_ok nmX2 hown hK hP hS hAo rfl 16 (by decide) (hts _ q990) rfl rfl hin rfl rfl rfl rfl (Nat.le_of_ble_eq_true rfl) dX2_init_92 (fun H locs hP oq z2 hS => ?_)
  have hP : va_at D CL (o, .inr (0, [.int (iI 0), .int (iI 0), .int (iI 0), .int (iI 0), .int (iI 0), .int (iI 0), .ref q6, .ref q7, .ref q8, .ref q9, .ref q10, .ref q11, .ref q12, .ref q13, .ref q14, .ref q15, .ref q16, .null, .null, .null, .null, .null, .null, .null, .null, .null, .null, .null, .null, .null, .null, .null, .int (iI 0), .int (iI 0), .int (iI 0), .int (iI 0), .int (iI 0), .null])) H := hP
  have hI := hI.kept oq
  have hsz : sz ≤ H.size := by omega
  have hol : o < H.size := by omega
  refine lv_aload_n hx hb dX2_init_95 rfl (lv_at hl 0 rfl) ?_
  refine lv_bipush (v := iI (60)) hx hb dX2_init_96 (by decide) ?_
  refine h_newaI hx hb (hts _ q443) hK hS 60 rfl (by decide) (Nat.le_of_ble_eq_true rfl) (Nat.le_of_ble_eq_true rfl) dX2_init_98 (fun q17 H hq hP17 o1 z1 hS => ?_)
  refine W.widen (k := 12) (n := 818) (Nat.le_of_ble_eq_true rfl) (Nat.le_of_ble_eq_true rfl) ?_
  have hI : IA D cA A o sz 12 (va_up (va_up (va_up (va_up (va_up (va_up (va_up (va_up (va_up (va_up (va_up (va_up (fun _ => 0) 6 q6) 7 q7) 8 q8) 9 q9) 10 q10) 11 q11) 12 q12) 13 q13) 14 q14) 15 q15) 16 q16) 17 q17) H := hI.add (by unfold isA; omega) rfl hq hsz hol (by rw [hq]; exact hAs _ hsz) o1 hP17
  have hP : va_at D CL (o, .inr (0, [.int (iI 0), .int (iI 0), .int (iI 0), .int (iI 0), .int (iI 0), .int (iI 0), .ref q6, .ref q7, .ref q8, .ref q9, .ref q10, .ref q11, .ref q12, .ref q13, .ref q14, .ref q15, .ref q16, .null, .null, .null, .null, .null, .null, .null, .null, .null, .null, .null, .null, .null, .null, .null, .int (iI 0), .int (iI 0), .int (iI 0), .int (iI 0), .int (iI 0), .null])) H := hP.kept (o1 _ hol)
  have hsz : sz ≤ H.size := by omega
  have hol : o < H.size := by omega
  refine h_putF hx hb hts in_X2 tyX2 tyX2_ok nmX2 hown hK hP hS hAo rfl 17 (by decide) (hts _ q991) rfl rfl hin rfl rfl rfl rfl (Nat.le_of_ble_eq_true rfl) dX2_init_100 (fun H locs hP oq z2 hS => ?_)
  have hP : va_at D CL (o, .inr (0, [.int (iI 0), .int (iI 0), .int (iI 0), .int (iI 0), .int (iI 0), .int (iI 0), .ref q6, .ref q7, .ref q8, .ref q9, .ref q10, .ref q11, .ref q12, .ref q13, .ref q14, .ref q15, .ref q16, .ref q17, .null, .null, .null, .null, .null, .null, .null, .null, .null, .null, .null, .null, .null, .null, .int (iI 0), .int (iI 0), .int (iI 0), .int (iI 0), .int (iI 0), .null])) H := hP
  have hI := hI.kept oq
  have hsz : sz ≤ H.size := by omega
  have hol : o < H.size := by omega
  refine lv_aload_n hx hb dX2_init_103 rfl (lv_at hl 0 rfl) ?_
  refine lv_bipush (v := iI (60)) hx hb dX2_init_104 (by decide) ?_
  refine h_newaI hx hb (hts _ q443) hK hS 60 rfl (by decide) (Nat.le_of_ble_eq_true rfl) (Nat.le_of_ble_eq_true rfl) dX2_init_106 (fun q18 H hq hP18 o1 z1 hS => ?_)
  refine W.widen (k := 13) (n := 878) (Nat.le_of_ble_eq_true rfl) (Nat.le_of_ble_eq_true rfl) ?_
  have hI : IA D cA A o sz 13 (va_up (va_up (va_up (va_up (va_up (va_up (va_up (va_up (va_up (va_up (va_up (va_up (va_up (fun _ => 0) 6 q6) 7 q7) 8 q8) 9 q9) 10 q10) 11 q11) 12 q12) 13 q13) 14 q14) 15 q15) 16 q16) 17 q17) 18 q18) H := hI.add (by unfold isA; omega) rfl hq hsz hol (by rw [hq]; exact hAs _ hsz) o1 hP18
  have hP : va_at D CL (o, .inr (0, [.int (iI 0), .int (iI 0), .int (iI 0), .int (iI 0), .int (iI 0), .int (iI 0), .ref q6, .ref q7, .ref q8, .ref q9, .ref q10, .ref q11, .ref q12, .ref q13, .ref q14, .ref q15, .ref q16, .ref q17, .null, .null, .null, .null, .null, .null, .null, .null, .null, .null, .null, .null, .null, .null, .int (iI 0), .int (iI 0), .int (iI 0), .int (iI 0), .int (iI 0), .null])) H := hP.kept (o1 _ hol)
  have hsz : sz ≤ H.size := by omega
  have hol : o < H.size := by omega
  refine h_putF hx hb hts in_X2 tyX2 tyX2_ok nmX2 hown hK hP hS hAo rfl 18 (by decide) (hts _ q992) rfl rfl hin rfl rfl rfl rfl (Nat.le_of_ble_eq_true rfl) dX2_init_108 (fun H locs hP oq z2 hS => ?_)
  have hP : va_at D CL (o, .inr (0, [.int (iI 0), .int (iI 0), .int (iI 0), .int (iI 0), .int (iI 0), .int (iI 0), .ref q6, .ref q7, .ref q8, .ref q9, .ref q10, .ref q11, .ref q12, .ref q13, .ref q14, .ref q15, .ref q16, .ref q17, .ref q18, .null, .null, .null, .null, .null, .null, .null, .null, .null, .null, .null, .null, .null, .int (iI 0), .int (iI 0), .int (iI 0), .int (iI 0), .int (iI 0), .null])) H := hP
  have hI := hI.kept oq
  have hsz : sz ≤ H.size := by omega
  have hol : o < H.size := by omega
  refine lv_aload_n hx hb dX2_init_111 rfl (lv_at hl 0 rfl) ?_
  refine lv_bipush (v := iI (60)) hx hb dX2_init_112 (by decide) ?_
  refine h_newaI hx hb (hts _ q443) hK hS 60 rfl (by decide) (Nat.le_of_ble_eq_true rfl) (Nat.le_of_ble_eq_true rfl) dX2_init_114 (fun q19 H hq hP19 o1 z1 hS => ?_)
  refine W.widen (k := 14) (n := 938) (Nat.le_of_ble_eq_true rfl) (Nat.le_of_ble_eq_true rfl) ?_
  have hI : IA D cA A o sz 14 (va_up (va_up (va_up (va_up (va_up (va_up (va_up (va_up (va_up (va_up (va_up (va_up (va_up (va_up (fun _ => 0) 6 q6) 7 q7) 8 q8) 9 q9) 10 q10) 11 q11) 12 q12) 13 q13) 14 q14) 15 q15) 16 q16) 17 q17) 18 q18) 19 q19) H := hI.add (by unfold isA; omega) rfl hq hsz hol (by rw [hq]; exact hAs _ hsz) o1 hP19
  have hP : va_at D CL (o, .inr (0, [.int (iI 0), .int (iI 0), .int (iI 0), .int (iI 0), .int (iI 0), .int (iI 0), .ref q6, .ref q7, .ref q8, .ref q9, .ref q10, .ref q11, .ref q12, .ref q13, .ref q14, .ref q15, .ref q16, .ref q17, .ref q18, .null, .null, .null, .null, .null, .null, .null, .null, .null, .null, .null, .null, .null, .int (iI 0), .int (iI 0), .int (iI 0), .int (iI 0), .int (iI 0), .null])) H := hP.kept (o1 _ hol)
  have hsz : sz ≤ H.size := by omega
  have hol : o < H.size := by omega
  refine h_putF hx hb hts in_X2 tyX2 tyX2_ok nmX2 hown hK hP hS hAo rfl 19 (by decide) (hts _ q993) rfl rfl hin rfl rfl rfl rfl (Nat.le_of_ble_eq_true rfl) dX2_init_116 (fun H locs hP oq z2 hS => ?_)
  have hP : va_at D CL (o, .inr (0, [.int (iI 0), .int (iI 0), .int (iI 0), .int (iI 0), .int (iI 0), .int (iI 0), .ref q6, .ref q7, .ref q8, .ref q9, .ref q10, .ref q11, .ref q12, .ref q13, .ref q14, .ref q15, .ref q16, .ref q17, .ref q18, .ref q19, .null, .null, .null, .null, .null, .null, .null, .null, .null, .null, .null, .null, .int (iI 0), .int (iI 0), .int (iI 0), .int (iI 0), .int (iI 0), .null])) H := hP
  have hI := hI.kept oq
  have hsz : sz ≤ H.size := by omega
  have hol : o < H.size := by omega
  refine lv_aload_n hx hb dX2_init_119 rfl (lv_at hl 0 rfl) ?_
  refine lv_bipush (v := iI (60)) hx hb dX2_init_120 (by decide) ?_
  refine h_newaI hx hb (hts _ q443) hK hS 60 rfl (by decide) (Nat.le_of_ble_eq_true rfl) (Nat.le_of_ble_eq_true rfl) dX2_init_122 (fun q20 H hq hP20 o1 z1 hS => ?_)
  refine W.widen (k := 15) (n := 998) (Nat.le_of_ble_eq_true rfl) (Nat.le_of_ble_eq_true rfl) ?_
  have hI : IA D cA A o sz 15 (va_up (va_up (va_up (va_up (va_up (va_up (va_up (va_up (va_up (va_up (va_up (va_up (va_up (va_up (va_up (fun _ => 0) 6 q6) 7 q7) 8 q8) 9 q9) 10 q10) 11 q11) 12 q12) 13 q13) 14 q14) 15 q15) 16 q16) 17 q17) 18 q18) 19 q19) 20 q20) H := hI.add (by unfold isA; omega) rfl hq hsz hol (by rw [hq]; exact hAs _ hsz) o1 hP20
  have hP : va_at D CL (o, .inr (0, [.int (iI 0), .int (iI 0), .int (iI 0), .int (iI 0), .int (iI 0), .int (iI 0), .ref q6, .ref q7, .ref q8, .ref q9, .ref q10, .ref q11, .ref q12, .ref q13, .ref q14, .ref q15, .ref q16, .ref q17, .ref q18, .ref q19, .null, .null, .null, .null, .null, .null, .null, .null, .null, .null, .null, .null, .int (iI 0), .int (iI 0), .int (iI 0), .int (iI 0), .int (iI 0), .null])) H := hP.kept (o1 _ hol)
  have hsz : sz ≤ H.size := by omega
  have hol : o < H.size := by omega
  refine h_putF hx hb hts in_X2 tyX2 tyX2_ok nmX2 hown hK hP hS hAo rfl 20 (by decide) (hts _ q994) rfl rfl hin rfl rfl rfl rfl (Nat.le_of_ble_eq_true rfl) dX2_init_124 (fun H locs hP oq z2 hS => ?_)
  have hP : va_at D CL (o, .inr (0, [.int (iI 0), .int (iI 0), .int (iI 0), .int (iI 0), .int (iI 0), .int (iI 0), .ref q6, .ref q7, .ref q8, .ref q9, .ref q10, .ref q11, .ref q12, .ref q13, .ref q14, .ref q15, .ref q16, .ref q17, .ref q18, .ref q19, .ref q20, .null, .null, .null, .null, .null, .null, .null, .null, .null, .null, .null, .int (iI 0), .int (iI 0), .int (iI 0), .int (iI 0), .int (iI 0), .null])) H := hP
  have hI := hI.kept oq
  have hsz : sz ≤ H.size := by omega
  have hol : o < H.size := by omega
  refine lv_aload_n hx hb dX2_init_127 rfl (lv_at hl 0 rfl) ?_
  refine lv_bipush (v := iI (60)) hx hb dX2_init_128 (by decide) ?_
  refine h_newaZ hx hb (hts _ q1089) hK hS 60 rfl (by decide) (Nat.le_of_ble_eq_true rfl) (Nat.le_of_ble_eq_true rfl) dX2_init_130 (fun q21 H hq hP21 o1 z1 hS => ?_)
  refine W.widen (k := 16) (n := 1058) (Nat.le_of_ble_eq_true rfl) (Nat.le_of_ble_eq_true rfl) ?_
  have hI : IA D cA A o sz 16 (va_up (va_up (va_up (va_up (va_up (va_up (va_up (va_up (va_up (va_up (va_up (va_up (va_up (va_up (va_up (va_up (fun _ => 0) 6 q6) 7 q7) 8 q8) 9 q9) 10 q10) 11 q11) 12 q12) 13 q13) 14 q14) 15 q15) 16 q16) 17 q17) 18 q18) 19 q19) 20 q20) 21 q21) H := hI.add (by unfold isA; omega) rfl hq hsz hol (by rw [hq]; exact hAs _ hsz) o1 hP21
  have hP : va_at D CL (o, .inr (0, [.int (iI 0), .int (iI 0), .int (iI 0), .int (iI 0), .int (iI 0), .int (iI 0), .ref q6, .ref q7, .ref q8, .ref q9, .ref q10, .ref q11, .ref q12, .ref q13, .ref q14, .ref q15, .ref q16, .ref q17, .ref q18, .ref q19, .ref q20, .null, .null, .null, .null, .null, .null, .null, .null, .null, .null, .null, .int (iI 0), .int (iI 0), .int (iI 0), .int (iI 0), .int (iI 0), .null])) H := hP.kept (o1 _ hol)
  have hsz : sz ≤ H.size := by omega
  have hol : o < H.size := by omega
  refine h_putF hx hb hts in_X2 tyX2 tyX2_ok nmX2 hown hK hP hS hAo rfl 21 (by decide) (hts _ q995) rfl rfl hin rfl rfl rfl rfl (Nat.le_of_ble_eq_true rfl) dX2_init_132 (fun H locs hP oq z2 hS => ?_)
  have hP : va_at D CL (o, .inr (0, [.int (iI 0), .int (iI 0), .int (iI 0), .int (iI 0), .int (iI 0), .int (iI 0), .ref q6, .ref q7, .ref q8, .ref q9, .ref q10, .ref q11, .ref q12, .ref q13, .ref q14, .ref q15, .ref q16, .ref q17, .ref q18, .ref q19, .ref q20, .ref q21, .null, .null, .null, .null, .null, .null, .null, .null, .null, .null, .int (iI 0), .int (iI 0), .int (iI 0), .int (iI 0), .int (iI 0), .null])) H := hP
  have hI := hI.kept oq
  have hsz : sz ≤ H.size := by omega
  have hol : o < H.size := by omega
  refine lv_aload_n hx hb dX2_init_135 rfl (lv_at hl 0 rfl) ?_
  refine lv_bipush (v := iI (120)) hx hb dX2_init_136 (by decide) ?_
  refine h_newaZ hx hb (hts _ q1089) hK hS 120 rfl (by decide) (Nat.le_of_ble_eq_true rfl) (Nat.le_of_ble_eq_true rfl) dX2_init_138 (fun q22 H hq hP22 o1 z1 hS => ?_)
  refine W.widen (k := 17) (n := 1178) (Nat.le_of_ble_eq_true rfl) (Nat.le_of_ble_eq_true rfl) ?_
  have hI : IA D cA A o sz 17 (va_up (va_up (va_up (va_up (va_up (va_up (va_up (va_up (va_up (va_up (va_up (va_up (va_up (va_up (va_up (va_up (va_up (fun _ => 0) 6 q6) 7 q7) 8 q8) 9 q9) 10 q10) 11 q11) 12 q12) 13 q13) 14 q14) 15 q15) 16 q16) 17 q17) 18 q18) 19 q19) 20 q20) 21 q21) 22 q22) H := hI.add (by unfold isA; omega) rfl hq hsz hol (by rw [hq]; exact hAs _ hsz) o1 hP22
  have hP : va_at D CL (o, .inr (0, [.int (iI 0), .int (iI 0), .int (iI 0), .int (iI 0), .int (iI 0), .int (iI 0), .ref q6, .ref q7, .ref q8, .ref q9, .ref q10, .ref q11, .ref q12, .ref q13, .ref q14, .ref q15, .ref q16, .ref q17, .ref q18, .ref q19, .ref q20, .ref q21, .null, .null, .null, .null, .null, .null, .null, .null, .null, .null, .int (iI 0), .int (iI 0), .int (iI 0), .int (iI 0), .int (iI 0), .null])) H := hP.kept (o1 _ hol)
  have hsz : sz ≤ H.size := by omega
  have hol : o < H.size := by omega
  refine h_putF hx hb hts in_X2 tyX2 tyX2_ok nmX2 hown hK hP hS hAo rfl 22 (by decide) (hts _ q996) rfl rfl hin rfl rfl rfl rfl (Nat.le_of_ble_eq_true rfl) dX2_init_140 (fun H locs hP oq z2 hS => ?_)
  have hP : va_at D CL (o, .inr (0, [.int (iI 0), .int (iI 0), .int (iI 0), .int (iI 0), .int (iI 0), .int (iI 0), .ref q6, .ref q7, .ref q8, .ref q9, .ref q10, .ref q11, .ref q12, .ref q13, .ref q14, .ref q15, .ref q16, .ref q17, .ref q18, .ref q19, .ref q20, .ref q21, .ref q22, .null, .null, .null, .null, .null, .null, .null, .null, .null, .int (iI 0), .int (iI 0), .int (iI 0), .int (iI 0), .int (iI 0), .null])) H := hP
  have hI := hI.kept oq
  have hsz : sz ≤ H.size := by omega
  have hol : o < H.size := by omega
  refine lv_aload_n hx hb dX2_init_143 rfl (lv_at hl 0 rfl) ?_
  refine lv_bipush (v := iI (120)) hx hb dX2_init_144 (by decide) ?_
  refine h_newaZ hx hb (hts _ q1089) hK hS 120 rfl (by decide) (Nat.le_of_ble_eq_true rfl) (Nat.le_of_ble_eq_true rfl) dX2_init_146 (fun q23 H hq hP23 o1 z1 hS => ?_)
  refine W.widen (k := 18) (n := 1298) (Nat.le_of_ble_eq_true rfl) (Nat.le_of_ble_eq_true rfl) ?_
  have hI : IA D cA A o sz 18 (va_up (va_up (va_up (va_up (va_up (va_up (va_up (va_up (va_up (va_up (va_up (va_up (va_up (va_up (va_up (va_up (va_up (va_up (fun _ => 0) 6 q6) 7 q7) 8 q8) 9 q9) 10 q10) 11 q11) 12 q12) 13 q13) 14 q14) 15 q15) 16 q16) 17 q17) 18 q18) 19 q19) 20 q20) 21 q21) 22 q22) 23 q23) H := hI.add (by unfold isA; omega) rfl hq hsz hol (by rw [hq]; exact hAs _ hsz) o1 hP23
  have hP : va_at D CL (o, .inr (0, [.int (iI 0), .int (iI 0), .int (iI 0), .int (iI 0), .int (iI 0), .int (iI 0), .ref q6, .ref q7, .ref q8, .ref q9, .ref q10, .ref q11, .ref q12, .ref q13, .ref q14, .ref q15, .ref q16, .ref q17, .ref q18, .ref q19, .ref q20, .ref q21, .ref q22, .null, .null, .null, .null, .null, .null, .null, .null, .null, .int (iI 0), .int (iI 0), .int (iI 0), .int (iI 0), .int (iI 0), .null])) H := hP.kept (o1 _ hol)
  have hsz : sz ≤ H.size := by omega
  have hol : o < H.size := by omega
  refine h_putF hx hb hts in_X2 tyX2 tyX2_ok nmX2 hown hK hP hS hAo rfl 23 (by decide) (hts _ q997) rfl rfl hin rfl rfl rfl rfl (Nat.le_of_ble_eq_true rfl) dX2_init_148 (fun H locs hP oq z2 hS => ?_)
  have hP : va_at D CL (o, .inr (0, [.int (iI 0), .int (iI 0), .int (iI 0), .int (iI 0), .int (iI 0), .int (iI 0), .ref q6, .ref q7, .ref q8, .ref q9, .ref q10, .ref q11, .ref q12, .ref q13, .ref q14, .ref q15, .ref q16, .ref q17, .ref q18, .ref q19, .ref q20, .ref q21, .ref q22, .ref q23, .null, .null, .null, .null, .null, .null, .null, .null, .int (iI 0), .int (iI 0), .int (iI 0), .int (iI 0), .int (iI 0), .null])) H := hP
  have hI := hI.kept oq
  have hsz : sz ≤ H.size := by omega
  have hol : o < H.size := by omega
  refine lv_aload_n hx hb dX2_init_151 rfl (lv_at hl 0 rfl) ?_
  refine lv_bipush (v := iI (120)) hx hb dX2_init_152 (by decide) ?_
  refine h_newaI hx hb (hts _ q443) hK hS 120 rfl (by decide) (Nat.le_of_ble_eq_true rfl) (Nat.le_of_ble_eq_true rfl) dX2_init_154 (fun q24 H hq hP24 o1 z1 hS => ?_)
  refine W.widen (k := 19) (n := 1418) (Nat.le_of_ble_eq_true rfl) (Nat.le_of_ble_eq_true rfl) ?_
  have hI : IA D cA A o sz 19 (va_up (va_up (va_up (va_up (va_up (va_up (va_up (va_up (va_up (va_up (va_up (va_up (va_up (va_up (va_up (va_up (va_up (va_up (va_up (fun _ => 0) 6 q6) 7 q7) 8 q8) 9 q9) 10 q10) 11 q11) 12 q12) 13 q13) 14 q14) 15 q15) 16 q16) 17 q17) 18 q18) 19 q19) 20 q20) 21 q21) 22 q22) 23 q23) 24 q24) H := hI.add (by unfold isA; omega) rfl hq hsz hol (by rw [hq]; exact hAs _ hsz) o1 hP24
  have hP : va_at D CL (o, .inr (0, [.int (iI 0), .int (iI 0), .int (iI 0), .int (iI 0), .int (iI 0), .int (iI 0), .ref q6, .ref q7, .ref q8, .ref q9, .ref q10, .ref q11, .ref q12, .ref q13, .ref q14, .ref q15, .ref q16, .ref q17, .ref q18, .ref q19, .ref q20, .ref q21, .ref q22, .ref q23, .null, .null, .null, .null, .null, .null, .null, .null, .int (iI 0), .int (iI 0), .int (iI 0), .int (iI 0), .int (iI 0), .null])) H := hP.kept (o1 _ hol)
  have hsz : sz ≤ H.size := by omega
  have hol : o < H.size := by omega
  refine h_putF hx hb hts in_X2 tyX2 tyX2_ok nmX2 hown hK hP hS hAo rfl 24 (by decide) (hts _ q998) rfl rfl hin rfl rfl rfl rfl (Nat.le_of_ble_eq_true rfl) dX2_init_156 (fun H locs hP oq z2 hS => ?_)
  have hP : va_at D CL (o, .inr (0, [.int (iI 0), .int (iI 0), .int (iI 0), .int (iI 0), .int (iI 0), .int (iI 0), .ref q6, .ref q7, .ref q8, .ref q9, .ref q10, .ref q11, .ref q12, .ref q13, .ref q14, .ref q15, .ref q16, .ref q17, .ref q18, .ref q19, .ref q20, .ref q21, .ref q22, .ref q23, .ref q24, .null, .null, .null, .null, .null, .null, .null, .int (iI 0), .int (iI 0), .int (iI 0), .int (iI 0), .int (iI 0), .null])) H := hP
  have hI := hI.kept oq
  have hsz : sz ≤ H.size := by omega
  have hol : o < H.size := by omega
  refine lv_aload_n hx hb dX2_init_159 rfl (lv_at hl 0 rfl) ?_
  refine lv_bipush (v := iI (120)) hx hb dX2_init_160 (by decide) ?_
  refine h_newaI hx hb (hts _ q443) hK hS 120 rfl (by decide) (Nat.le_of_ble_eq_true rfl) (Nat.le_of_ble_eq_true rfl) dX2_init_162 (fun q25 H hq hP25 o1 z1 hS => ?_)
  refine W.widen (k := 20) (n := 1538) (Nat.le_of_ble_eq_true rfl) (Nat.le_of_ble_eq_true rfl) ?_
  have hI : IA D cA A o sz 20 (va_up (va_up (va_up (va_up (va_up (va_up (va_up (va_up (va_up (va_up (va_up (va_up (va_up (va_up (va_up (va_up (va_up (va_up (va_up (va_up (fun _ => 0) 6 q6) 7 q7) 8 q8) 9 q9) 10 q10) 11 q11) 12 q12) 13 q13) 14 q14) 15 q15) 16 q16) 17 q17) 18 q18) 19 q19) 20 q20) 21 q21) 22 q22) 23 q23) 24 q24) 25 q25) H := hI.add (by unfold isA; omega) rfl hq hsz hol (by rw [hq]; exact hAs _ hsz) o1 hP25
  have hP : va_at D CL (o, .inr (0, [.int (iI 0), .int (iI 0), .int (iI 0), .int (iI 0), .int (iI 0), .int (iI 0), .ref q6, .ref q7, .ref q8, .ref q9, .ref q10, .ref q11, .ref q12, .ref q13, .ref q14, .ref q15, .ref q16, .ref q17, .ref q18, .ref q19, .ref q20, .ref q21, .ref q22, .ref q23, .ref q24, .null, .null, .null, .null, .null, .null, .null, .int (iI 0), .int (iI 0), .int (iI 0), .int (iI 0), .int (iI 0), .null])) H := hP.kept (o1 _ hol)
  have hsz : sz ≤ H.size := by omega
  have hol : o < H.size := by omega
  refine h_putF hx hb hts in_X2 tyX2 tyX2_ok nmX2 hown hK hP hS hAo rfl 25 (by decide) (hts _ q999) rfl rfl hin rfl rfl rfl rfl (Nat.le_of_ble_eq_true rfl) dX2_init_164 (fun H locs hP oq z2 hS => ?_)
  have hP : va_at D CL (o, .inr (0, [.int (iI 0), .int (iI 0), .int (iI 0), .int (iI 0), .int (iI 0), .int (iI 0), .ref q6, .ref q7, .ref q8, .ref q9, .ref q10, .ref q11, .ref q12, .ref q13, .ref q14, .ref q15, .ref q16, .ref q17, .ref q18, .ref q19, .ref q20, .ref q21, .ref q22, .ref q23, .ref q24, .ref q25, .null, .null, .null, .null, .null, .null, .int (iI 0), .int (iI 0), .int (iI 0), .int (iI 0), .int (iI 0), .null])) H := hP
  have hI := hI.kept oq
  have hsz : sz ≤ H.size := by omega
  have hol : o < H.size := by omega
  refine lv_aload_n hx hb dX2_init_167 rfl (lv_at hl 0 rfl) ?_
  refine lv_bipush (v := iI (120)) hx hb dX2_init_168 (by decide) ?_
  refine h_newaI hx hb (hts _ q443) hK hS 120 rfl (by decide) (Nat.le_of_ble_eq_true rfl) (Nat.le_of_ble_eq_true rfl) dX2_init_170 (fun q26 H hq hP26 o1 z1 hS => ?_)
  refine W.widen (k := 21) (n := 1658) (Nat.le_of_ble_eq_true rfl) (Nat.le_of_ble_eq_true rfl) ?_
  have hI : IA D cA A o sz 21 (va_up (va_up (va_up (va_up (va_up (va_up (va_up (va_up (va_up (va_up (va_up (va_up (va_up (va_up (va_up (va_up (va_up (va_up (va_up (va_up (va_up (fun _ => 0) 6 q6) 7 q7) 8 q8) 9 q9) 10 q10) 11 q11) 12 q12) 13 q13) 14 q14) 15 q15) 16 q16) 17 q17) 18 q18) 19 q19) 20 q20) 21 q21) 22 q22) 23 q23) 24 q24) 25 q25) 26 q26) H := hI.add (by unfold isA; omega) rfl hq hsz hol (by rw [hq]; exact hAs _ hsz) o1 hP26
  have hP : va_at D CL (o, .inr (0, [.int (iI 0), .int (iI 0), .int (iI 0), .int (iI 0), .int (iI 0), .int (iI 0), .ref q6, .ref q7, .ref q8, .ref q9, .ref q10, .ref q11, .ref q12, .ref q13, .ref q14, .ref q15, .ref q16, .ref q17, .ref q18, .ref q19, .ref q20, .ref q21, .ref q22, .ref q23, .ref q24, .ref q25, .null, .null, .null, .null, .null, .null, .int (iI 0), .int (iI 0), .int (iI 0), .int (iI 0), .int (iI 0), .null])) H := hP.kept (o1 _ hol)
  have hsz : sz ≤ H.size := by omega
  have hol : o < H.size := by omega
  refine h_putF hx hb hts in_X2 tyX2 tyX2_ok nmX2 hown hK hP hS hAo rfl 26 (by decide) (hts _ q1000) rfl rfl hin rfl rfl rfl rfl (Nat.le_of_ble_eq_true rfl) dX2_init_172 (fun H locs hP oq z2 hS => ?_)
  have hP : va_at D CL (o, .inr (0, [.int (iI 0), .int (iI 0), .int (iI 0), .int (iI 0), .int (iI 0), .int (iI 0), .ref q6, .ref q7, .ref q8, .ref q9, .ref q10, .ref q11, .ref q12, .ref q13, .ref q14, .ref q15, .ref q16, .ref q17, .ref q18, .ref q19, .ref q20, .ref q21, .ref q22, .ref q23, .ref q24, .ref q25, .ref q26, .null, .null, .null, .null, .null, .int (iI 0), .int (iI 0), .int (iI 0), .int (iI 0), .int (iI 0), .null])) H := hP
  have hI := hI.kept oq
  have hsz : sz ≤ H.size := by omega
  have hol : o < H.size := by omega
  refine lv_aload_n hx hb dX2_init_175 rfl (lv_at hl 0 rfl) ?_
  refine lv_sipush (v := iI (360)) hx hb dX2_init_176 (by decide) ?_
  refine h_newaI hx hb (hts _ q443) hK hS 360 rfl (by decide) (Nat.le_of_ble_eq_true rfl) (Nat.le_of_ble_eq_true rfl) dX2_init_179 (fun q27 H hq hP27 o1 z1 hS => ?_)
  refine W.widen (k := 22) (n := 2018) (Nat.le_of_ble_eq_true rfl) (Nat.le_of_ble_eq_true rfl) ?_
  have hI : IA D cA A o sz 22 (va_up (va_up (va_up (va_up (va_up (va_up (va_up (va_up (va_up (va_up (va_up (va_up (va_up (va_up (va_up (va_up (va_up (va_up (va_up (va_up (va_up (va_up (fun _ => 0) 6 q6) 7 q7) 8 q8) 9 q9) 10 q10) 11 q11) 12 q12) 13 q13) 14 q14) 15 q15) 16 q16) 17 q17) 18 q18) 19 q19) 20 q20) 21 q21) 22 q22) 23 q23) 24 q24) 25 q25) 26 q26) 27 q27) H := hI.add (by unfold isA; omega) rfl hq hsz hol (by rw [hq]; exact hAs _ hsz) o1 hP27
  have hP : va_at D CL (o, .inr (0, [.int (iI 0), .int (iI 0), .int (iI 0), .int (iI 0), .int (iI 0), .int (iI 0), .ref q6, .ref q7, .ref q8, .ref q9, .ref q10, .ref q11, .ref q12, .ref q13, .ref q14, .ref q15, .ref q16, .ref q17, .ref q18, .ref q19, .ref q20, .ref q21, .ref q22, .ref q23, .ref q24, .ref q25, .ref q26, .null, .null, .null, .null, .null, .int (iI 0), .int (iI 0), .int (iI 0), .int (iI 0), .int (iI 0), .null])) H := hP.kept (o1 _ hol)
  have hsz : sz ≤ H.size := by omega
  have hol : o < H.size := by omega
  refine h_putF hx hb hts in_X2 tyX2 tyX2_ok nmX2 hown hK hP hS hAo rfl 27 (by decide) (hts _ q1001) rfl rfl hin rfl rfl rfl rfl (Nat.le_of_ble_eq_true rfl) dX2_init_181 (fun H locs hP oq z2 hS => ?_)
  have hP : va_at D CL (o, .inr (0, [.int (iI 0), .int (iI 0), .int (iI 0), .int (iI 0), .int (iI 0), .int (iI 0), .ref q6, .ref q7, .ref q8, .ref q9, .ref q10, .ref q11, .ref q12, .ref q13, .ref q14, .ref q15, .ref q16, .ref q17, .ref q18, .ref q19, .ref q20, .ref q21, .ref q22, .ref q23, .ref q24, .ref q25, .ref q26, .ref q27, .null, .null, .null, .null, .int (iI 0), .int (iI 0), .int (iI 0), .int (iI 0), .int (iI 0), .null])) H := hP
  have hI := hI.kept oq
  have hsz : sz ≤ H.size := by omega
  have hol : o < H.size := by omega
  refine lv_aload_n hx hb dX2_init_184 rfl (lv_at hl 0 rfl) ?_
  refine lv_sipush (v := iI (360)) hx hb dX2_init_185 (by decide) ?_
  refine h_newaI hx hb (hts _ q443) hK hS 360 rfl (by decide) (Nat.le_of_ble_eq_true rfl) (Nat.le_of_ble_eq_true rfl) dX2_init_188 (fun q28 H hq hP28 o1 z1 hS => ?_)
  refine W.widen (k := 23) (n := 2378) (Nat.le_of_ble_eq_true rfl) (Nat.le_of_ble_eq_true rfl) ?_
  have hI : IA D cA A o sz 23 (va_up (va_up (va_up (va_up (va_up (va_up (va_up (va_up (va_up (va_up (va_up (va_up (va_up (va_up (va_up (va_up (va_up (va_up (va_up (va_up (va_up (va_up (va_up (fun _ => 0) 6 q6) 7 q7) 8 q8) 9 q9) 10 q10) 11 q11) 12 q12) 13 q13) 14 q14) 15 q15) 16 q16) 17 q17) 18 q18) 19 q19) 20 q20) 21 q21) 22 q22) 23 q23) 24 q24) 25 q25) 26 q26) 27 q27) 28 q28) H := hI.add (by unfold isA; omega) rfl hq hsz hol (by rw [hq]; exact hAs _ hsz) o1 hP28
  have hP : va_at D CL (o, .inr (0, [.int (iI 0), .int (iI 0), .int (iI 0), .int (iI 0), .int (iI 0), .int (iI 0), .ref q6, .ref q7, .ref q8, .ref q9, .ref q10, .ref q11, .ref q12, .ref q13, .ref q14, .ref q15, .ref q16, .ref q17, .ref q18, .ref q19, .ref q20, .ref q21, .ref q22, .ref q23, .ref q24, .ref q25, .ref q26, .ref q27, .null, .null, .null, .null, .int (iI 0), .int (iI 0), .int (iI 0), .int (iI 0), .int (iI 0), .null])) H := hP.kept (o1 _ hol)
  have hsz : sz ≤ H.size := by omega
  have hol : o < H.size := by omega
  refine h_putF hx hb hts in_X2 tyX2 tyX2_ok nmX2 hown hK hP hS hAo rfl 28 (by decide) (hts _ q1002) rfl rfl hin rfl rfl rfl rfl (Nat.le_of_ble_eq_true rfl) dX2_init_190 (fun H locs hP oq z2 hS => ?_)
  have hP : va_at D CL (o, .inr (0, [.int (iI 0), .int (iI 0), .int (iI 0), .int (iI 0), .int (iI 0), .int (iI 0), .ref q6, .ref q7, .ref q8, .ref q9, .ref q10, .ref q11, .ref q12, .ref q13, .ref q14, .ref q15, .ref q16, .ref q17, .ref q18, .ref q19, .ref q20, .ref q21, .ref q22, .ref q23, .ref q24, .ref q25, .ref q26, .ref q27, .ref q28, .null, .null, .null, .int (iI 0), .int (iI 0), .int (iI 0), .int (iI 0), .int (iI 0), .null])) H := hP
  have hI := hI.kept oq
  have hsz : sz ≤ H.size := by omega
  have hol : o < H.size := by omega
  refine lv_aload_n hx hb dX2_init_193 rfl (lv_at hl 0 rfl) ?_
  refine lv_sipush (v := iI (360)) hx hb dX2_init_194 (by decide) ?_
  refine h_newaI hx hb (hts _ q443) hK hS 360 rfl (by decide) (Nat.le_of_ble_eq_true rfl) (Nat.le_of_ble_eq_true rfl) dX2_init_197 (fun q29 H hq hP29 o1 z1 hS => ?_)
  refine W.widen (k := 24) (n := 2738) (Nat.le_of_ble_eq_true rfl) (Nat.le_of_ble_eq_true rfl) ?_
  have hI : IA D cA A o sz 24 (va_up (va_up (va_up (va_up (va_up (va_up (va_up (va_up (va_up (va_up (va_up (va_up (va_up (va_up (va_up (va_up (va_up (va_up (va_up (va_up (va_up (va_up (va_up (va_up (fun _ => 0) 6 q6) 7 q7) 8 q8) 9 q9) 10 q10) 11 q11) 12 q12) 13 q13) 14 q14) 15 q15) 16 q16) 17 q17) 18 q18) 19 q19) 20 q20) 21 q21) 22 q22) 23 q23) 24 q24) 25 q25) 26 q26) 27 q27) 28 q28) 29 q29) H := hI.add (by unfold isA; omega) rfl hq hsz hol (by rw [hq]; exact hAs _ hsz) o1 hP29
  have hP : va_at D CL (o, .inr (0, [.int (iI 0), .int (iI 0), .int (iI 0), .int (iI 0), .int (iI 0), .int (iI 0), .ref q6, .ref q7, .ref q8, .ref q9, .ref q10, .ref q11, .ref q12, .ref q13, .ref q14, .ref q15, .ref q16, .ref q17, .ref q18, .ref q19, .ref q20, .ref q21, .ref q22, .ref q23, .ref q24, .ref q25, .ref q26, .ref q27, .ref q28, .null, .null, .null, .int (iI 0), .int (iI 0), .int (iI 0), .int (iI 0), .int (iI 0), .null])) H := hP.kept (o1 _ hol)
  have hsz : sz ≤ H.size := by omega
  have hol : o < H.size := by omega
  refine h_putF hx hb hts in_X2 tyX2 tyX2_ok nmX2 hown hK hP hS hAo rfl 29 (by decide) (hts _ q1003) rfl rfl hin rfl rfl rfl rfl (Nat.le_of_ble_eq_true rfl) dX2_init_199 (fun H locs hP oq z2 hS => ?_)
  have hP : va_at D CL (o, .inr (0, [.int (iI 0), .int (iI 0), .int (iI 0), .int (iI 0), .int (iI 0), .int (iI 0), .ref q6, .ref q7, .ref q8, .ref q9, .ref q10, .ref q11, .ref q12, .ref q13, .ref q14, .ref q15, .ref q16, .ref q17, .ref q18, .ref q19, .ref q20, .ref q21, .ref q22, .ref q23, .ref q24, .ref q25, .ref q26, .ref q27, .ref q28, .ref q29, .null, .null, .int (iI 0), .int (iI 0), .int (iI 0), .int (iI 0), .int (iI 0), .null])) H := hP
  have hI := hI.kept oq
  have hsz : sz ≤ H.size := by omega
  have hol : o < H.size := by omega
  refine lv_aload_n hx hb dX2_init_202 rfl (lv_at hl 0 rfl) ?_
  refine lv_sipush (v := iI (640)) hx hb dX2_init_203 (by decide) ?_
  refine h_newaI hx hb (hts _ q443) hK hS 640 rfl (by decide) (Nat.le_of_ble_eq_true rfl) (Nat.le_of_ble_eq_true rfl) dX2_init_206 (fun q30 H hq hP30 o1 z1 hS => ?_)
  refine W.widen (k := 25) (n := 3378) (Nat.le_of_ble_eq_true rfl) (Nat.le_of_ble_eq_true rfl) ?_
  have hI : IA D cA A o sz 25 (va_up (va_up (va_up (va_up (va_up (va_up (va_up (va_up (va_up (va_up (va_up (va_up (va_up (va_up (va_up (va_up (va_up (va_up (va_up (va_up (va_up (va_up (va_up (va_up (va_up (fun _ => 0) 6 q6) 7 q7) 8 q8) 9 q9) 10 q10) 11 q11) 12 q12) 13 q13) 14 q14) 15 q15) 16 q16) 17 q17) 18 q18) 19 q19) 20 q20) 21 q21) 22 q22) 23 q23) 24 q24) 25 q25) 26 q26) 27 q27) 28 q28) 29 q29) 30 q30) H := hI.add (by unfold isA; omega) rfl hq hsz hol (by rw [hq]; exact hAs _ hsz) o1 hP30
  have hP : va_at D CL (o, .inr (0, [.int (iI 0), .int (iI 0), .int (iI 0), .int (iI 0), .int (iI 0), .int (iI 0), .ref q6, .ref q7, .ref q8, .ref q9, .ref q10, .ref q11, .ref q12, .ref q13, .ref q14, .ref q15, .ref q16, .ref q17, .ref q18, .ref q19, .ref q20, .ref q21, .ref q22, .ref q23, .ref q24, .ref q25, .ref q26, .ref q27, .ref q28, .ref q29, .null, .null, .int (iI 0), .int (iI 0), .int (iI 0), .int (iI 0), .int (iI 0), .null])) H := hP.kept (o1 _ hol)
  have hsz : sz ≤ H.size := by omega
  have hol : o < H.size := by omega
  refine h_putF hx hb hts in_X2 tyX2 tyX2_ok nmX2 hown hK hP hS hAo rfl 30 (by decide) (hts _ q1004) rfl rfl hin rfl rfl rfl rfl (Nat.le_of_ble_eq_true rfl) dX2_init_208 (fun H locs hP oq z2 hS => ?_)
  have hP : va_at D CL (o, .inr (0, [.int (iI 0), .int (iI 0), .int (iI 0), .int (iI 0), .int (iI 0), .int (iI 0), .ref q6, .ref q7, .ref q8, .ref q9, .ref q10, .ref q11, .ref q12, .ref q13, .ref q14, .ref q15, .ref q16, .ref q17, .ref q18, .ref q19, .ref q20, .ref q21, .ref q22, .ref q23, .ref q24, .ref q25, .ref q26, .ref q27, .ref q28, .ref q29, .ref q30, .null, .int (iI 0), .int (iI 0), .int (iI 0), .int (iI 0), .int (iI 0), .null])) H := hP
  have hI := hI.kept oq
  have hsz : sz ≤ H.size := by omega
  have hol : o < H.size := by omega
  refine lv_aload_n hx hb dX2_init_211 rfl (lv_at hl 0 rfl) ?_
  refine lv_sipush (v := iI (640)) hx hb dX2_init_212 (by decide) ?_
  refine h_newaI hx hb (hts _ q443) hK hS 640 rfl (by decide) (Nat.le_of_ble_eq_true rfl) (Nat.le_of_ble_eq_true rfl) dX2_init_215 (fun q31 H hq hP31 o1 z1 hS => ?_)
  refine W.widen (k := 26) (n := 4018) (Nat.le_of_ble_eq_true rfl) (Nat.le_of_ble_eq_true rfl) ?_
  have hI : IA D cA A o sz 26 (va_up (va_up (va_up (va_up (va_up (va_up (va_up (va_up (va_up (va_up (va_up (va_up (va_up (va_up (va_up (va_up (va_up (va_up (va_up (va_up (va_up (va_up (va_up (va_up (va_up (va_up (fun _ => 0) 6 q6) 7 q7) 8 q8) 9 q9) 10 q10) 11 q11) 12 q12) 13 q13) 14 q14) 15 q15) 16 q16) 17 q17) 18 q18) 19 q19) 20 q20) 21 q21) 22 q22) 23 q23) 24 q24) 25 q25) 26 q26) 27 q27) 28 q28) 29 q29) 30 q30) 31 q31) H := hI.add (by unfold isA; omega) rfl hq hsz hol (by rw [hq]; exact hAs _ hsz) o1 hP31
  have hP : va_at D CL (o, .inr (0, [.int (iI 0), .int (iI 0), .int (iI 0), .int (iI 0), .int (iI 0), .int (iI 0), .ref q6, .ref q7, .ref q8, .ref q9, .ref q10, .ref q11, .ref q12, .ref q13, .ref q14, .ref q15, .ref q16, .ref q17, .ref q18, .ref q19, .ref q20, .ref q21, .ref q22, .ref q23, .ref q24, .ref q25, .ref q26, .ref q27, .ref q28, .ref q29, .ref q30, .null, .int (iI 0), .int (iI 0), .int (iI 0), .int (iI 0), .int (iI 0), .null])) H := hP.kept (o1 _ hol)
  have hsz : sz ≤ H.size := by omega
  have hol : o < H.size := by omega
  refine h_putF hx hb hts in_X2 tyX2 tyX2_ok nmX2 hown hK hP hS hAo rfl 31 (by decide) (hts _ q1005) rfl rfl hin rfl rfl rfl rfl (Nat.le_of_ble_eq_true rfl) dX2_init_217 (fun H locs hP oq z2 hS => ?_)
  have hP : va_at D CL (o, .inr (0, [.int (iI 0), .int (iI 0), .int (iI 0), .int (iI 0), .int (iI 0), .int (iI 0), .ref q6, .ref q7, .ref q8, .ref q9, .ref q10, .ref q11, .ref q12, .ref q13, .ref q14, .ref q15, .ref q16, .ref q17, .ref q18, .ref q19, .ref q20, .ref q21, .ref q22, .ref q23, .ref q24, .ref q25, .ref q26, .ref q27, .ref q28, .ref q29, .ref q30, .ref q31, .int (iI 0), .int (iI 0), .int (iI 0), .int (iI 0), .int (iI 0), .null])) H := hP
  have hI := hI.kept oq
  have hsz : sz ≤ H.size := by omega
  have hol : o < H.size := by omega
  refine lv_aload_n hx hb dX2_init_220 rfl (lv_at hl 0 rfl) ?_
  refine lv_bipush (v := iI (60)) hx hb dX2_init_221 (by decide) ?_
  refine h_newaZ hx hb (hts _ q1089) hK hS 60 rfl (by decide) (Nat.le_of_ble_eq_true rfl) (Nat.le_of_ble_eq_true rfl) dX2_init_223 (fun q37 H hq hP37 o1 z1 hS => ?_)
  refine W.widen (k := 27) (n := 4078) (Nat.le_of_ble_eq_true rfl) (Nat.le_of_ble_eq_true rfl) ?_
  have hI : IA D cA A o sz 27 (va_up (va_up (va_up (va_up (va_up (va_up (va_up (va_up (va_up (va_up (va_up (va_up (va_up (va_up (va_up (va_up (va_up (va_up (va_up (va_up (va_up (va_up (va_up (va_up (va_up (va_up (va_up (fun _ => 0) 6 q6) 7 q7) 8 q8) 9 q9) 10 q10) 11 q11) 12 q12) 13 q13) 14 q14) 15 q15) 16 q16) 17 q17) 18 q18) 19 q19) 20 q20) 21 q21) 22 q22) 23 q23) 24 q24) 25 q25) 26 q26) 27 q27) 28 q28) 29 q29) 30 q30) 31 q31) 37 q37) H := hI.add (by unfold isA; omega) rfl hq hsz hol (by rw [hq]; exact hAs _ hsz) o1 hP37
  have hP : va_at D CL (o, .inr (0, [.int (iI 0), .int (iI 0), .int (iI 0), .int (iI 0), .int (iI 0), .int (iI 0), .ref q6, .ref q7, .ref q8, .ref q9, .ref q10, .ref q11, .ref q12, .ref q13, .ref q14, .ref q15, .ref q16, .ref q17, .ref q18, .ref q19, .ref q20, .ref q21, .ref q22, .ref q23, .ref q24, .ref q25, .ref q26, .ref q27, .ref q28, .ref q29, .ref q30, .ref q31, .int (iI 0), .int (iI 0), .int (iI 0), .int (iI 0), .int (iI 0), .null])) H := hP.kept (o1 _ hol)
  have hsz : sz ≤ H.size := by omega
  have hol : o < H.size := by omega
  refine h_putF hx hb hts in_X2 tyX2 tyX2_ok nmX2 hown hK hP hS hAo rfl 37 (by decide) (hts _ q1011) rfl rfl hin rfl rfl rfl rfl (Nat.le_of_ble_eq_true rfl) dX2_init_225 (fun H locs hP oq z2 hS => ?_)
  have hP : va_at D CL (o, .inr (0, [.int (iI 0), .int (iI 0), .int (iI 0), .int (iI 0), .int (iI 0), .int (iI 0), .ref q6, .ref q7, .ref q8, .ref q9, .ref q10, .ref q11, .ref q12, .ref q13, .ref q14, .ref q15, .ref q16, .ref q17, .ref q18, .ref q19, .ref q20, .ref q21, .ref q22, .ref q23, .ref q24, .ref q25, .ref q26, .ref q27, .ref q28, .ref q29, .ref q30, .ref q31, .int (iI 0), .int (iI 0), .int (iI 0), .int (iI 0), .int (iI 0), .ref q37])) H := hP
  have hI := hI.kept oq
  have hsz : sz ≤ H.size := by omega
  have hol : o < H.size := by omega
  exact W.vret hx hb hr (fun t ht hWm => ⟨⟨rfl, by rw [ht]; exact ⟨_, hI.done hAo hP, fun k hk => (hI.1 k hk (by unfold isA at hk; unfold rkA; split <;> omega)).2.2.2⟩⟩, hS.F ht⟩) hS.2.2 dX2_init_228
