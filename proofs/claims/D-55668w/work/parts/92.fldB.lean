/-! THE FIELD: a round -/
set_option maxRecDepth 100000
theorem g3s_c {t : SF} {j : Nat} (h : ¬ cnt t (nI j) (nS t) = 0) : g3s t j = upd (upd t (87 + j) (mid t (nI j) 27)) (81 + j) (mid t (nI j) 9) := by rw [g3s, if_neg h]
theorem g3s_e {t : SF} {j : Nat} (h : cnt t (nI j) (nS t) = 0) : g3s t j = t := by rw [g3s, if_pos h]
theorem g4s_e {t : SF} {j : Nat} (h : ¬ cnt t (nI j) (nS t) = 0) : g4s t j = t := by rw [g4s, if_pos (by omega)]
theorem g4s_n {t : SF} {j : Nat} (h : cnt t (nI j) (nS t) = 0) (ho : outl t = none) : g4s t j = t := by rw [g4s, if_neg (by omega), ho]
theorem g4s_k {t : SF} {j k : Nat} (h : cnt t (nI j) (nS t) = 0) (ho : outl t = some k) : g4s t j = g4k t j k := by rw [g4s, if_neg (by omega), ho]
theorem g4k_eq {t t1 : SF} {j k : Nat} (h : t1 = bel t k (nI j)) (hk : k < 18) : upd (upd (upd t1 (81 + j) (t1 (9 + k))) (87 + j) (t1 (27 + k))) 3 (upd (upd t1 (81 + j) (t1 (9 + k))) (87 + j) (t1 (27 + k)) 3 + 1) = g4k t j k := by
  subst h
  unfold g4k
  dsimp only
  rw [upd_n (show 27 + k ≠ 81 + j by omega)]
abbrev rm_X2_makeRound : Room := { frames := 18, cells := 75, slots := 755, locals := 440 }
set_option maxHeartbeats 4000000 in
theorem f2_makeRound {lx : Launch} {g : GP} {h : AH} (htr : lx.stackTraces = false) {hb : AH} {f a ea ca b eb cb d : Nat} {ma mb : Int32} {ls lh : List Nat} {s : SF} (hF : FA g hb h f s a ea ma ca b eb mb cb d ls lh) (hWF : WF s) : KT lx g yX2_makeRound (ws_ yX2_makeRound cX2_makeRound 5 (some .int)) rm_X2_makeRound 75 755 [.ref f] h (fun v h' => v = some (.int (nI (mvd s (ground s) (nH s)))) ∧ FA g hb h' f (ground s) a ea ma ca b eb mb cb d ls lh) (noX) := by
  refine KT.of (by decide +kernel) htr (Nat.le_of_ble_eq_true rfl) (L0 := [some (.ref f), none, none, none, none]) rfl ?_
  intro M cx hl9 hq hin hnx
  have hR1 : rm_X2_makeRound.cells = 75 := rfl
  have hR2 : rm_X2_makeRound.slots = 755 := rfl
  obtain ⟨hO, rfl⟩ : ∃ z, z = h := ⟨_, rfl⟩
  refine AW.hk fun hk9 => ?_
  have hS := hWF.1
  have hP := hWF.2.2
  have hn := hS.2.1
  have hm := hS.2.2.2
  have hWA : WW (rA s) := WW_of hP.w (rA_fx fx0) (fun k hk => rA_fx ⟨by omega, by omega, by omega⟩) hn
  have hXA : PX (rA s) := PX_of hP.x (rA_fx fx0) (fun q h1 h2 => rA_fx ⟨by omega, by omega, by omega⟩) hn
  have hPA : PH (rA s) (nH (rA s)) := by
    rw [nH_of (rA_fx fx1)]
    exact fun j hj => by
      have e1 : rA s (81 + j) = s (81 + j) := g2_hi (by omega) _ hn
      have e2 : rA s (87 + j) = s (87 + j) := g2_hi (by omega) _ hn
      rw [e1, e2]
      exact hP.h j hj
  have hGW := ground_WF hWF
  have eG : nH (ground s) = nH s := nH_of (ground_fx fx1 (by decide))
  have hPG := hGW.2.2.2
  refine a_new cx nl_X2_9 dX2_makeRound_0 (by omega) (by omega) (fun q n0 hB0 => ?_)
  refine a_dup cx dX2_makeRound_3 rfl ?_
  refine c_I cx (j2_init cx.htr (hset_s _ _ _)) (lw_meth q136) q81 q134 q135 rfl dn_J2_init (RN.of rfl rfl rfl rfl) rfl rfl (Nat.le_of_ble_eq_true rfl) dX2_makeRound_4 (by omega) (by omega) (fun v9 h hp9 => ?_) (fun E9 q9 h9 hx9 => hx9.elim)
  obtain ⟨rfl, rfl, hl0⟩ := hp9
  rw [hset_hset]
  rw [hset_hset] at hl0
  have hq0 := ne_gs cx.hG hB0
  have hnq := hF.ss.none n0
  have hF1 := (hF.base0 hk9.2.2.1).put (q := q) (e := eO 12 [.int 0, .ref (gs g 0), .int 0]) hq0 (Or.inr n0)
  refine a_astore_n cx dX2_makeRound_7 (Nat.le_of_ble_eq_true rfl) rfl ?_
  refine a_aload_n cx dX2_makeRound_8 rfl ?_
  refine a_get cx fl_X2_18.g dX2_makeRound_9 (hF1.o) (by exact rfl) ?_
  refine c_V cx (j2_iterator cx.htr hF1.lb.1) (lw_V q298 q299 q300 q81 q301) dn_J2_iterator (RN.of rfl rfl rfl rfl) rfl hF1.lb.1 rfl rfl rfl (Nat.le_of_ble_eq_true rfl) dX2_makeRound_12 (by omega) (by omega) (fun v9 h hp9 => ?_) (fun E9 q9 h9 hx9 => hx9.elim)
  obtain ⟨it, n12, hB12, rfl, rfl⟩ := hp9
  have hit0 := ne_gs cx.hG hB12
  have nitB := hF1.ss.none n12
  have hF2 := hF1.put (q := it) (e := itE 0 (-1) mb b) hit0 (Or.inr n12)
  have hb1 : sub hb (hset (hset hb (gs g 0) (eQ (g.2.1 4) 0 (fun _ => none))) q (eO 12 [.int 0, .ref (gs g 0), .int 0])) := fun x e hx => by
    have hxq : x ≠ q := fun z => by rw [z, hnq] at hx; cases hx
    rw [hset_n hxq]
    by_cases z : x = gs g 0
    · rw [z, hset_s]
      have := hF.ss _ _ hx
      rw [z, hk9.2.2.1] at this
      exact this
    · rw [hset_n z]; exact hx
  have nit : hb it = none := hb1.none nitB
  have hlB : AL g (hset (hset hb (gs g 0) (eQ (g.2.1 4) 0 (fun _ => none))) q (eO 12 [.int 0, .ref (gs g 0), .int 0])) q (gs g 0) 0 0 [] := ⟨hset_s _ _ _, ⟨_, (hset_n (Ne.symm hq0)).trans (hset_s _ _ _), fun i hi => absurd hi (Nat.not_lt_zero _)⟩, Nat.le_refl _, by decide, fun _ => rfl⟩
  refine a_astore_n cx dX2_makeRound_15 (Nat.le_of_ble_eq_true rfl) rfl ?_
  have loop : ∀ (j0 k : Nat) (last : Int32) (h1 B : AH) (ed cap : Nat) (mq : Int32) (lx : List Nat), k ≤ nH s → nH s < k + j0 → FA g B h1 f s a ea ma ca b eb mb cb d ls lh → AL g B q ed mq cap lx → lx.length = k → (∀ j, j < k → B (lx.getD j 0) = some (huE (s (81 + j)) (s (87 + j)))) → B it = some (itE (nI k) last mb b) → sub hb B → (ed = gs g 0 ∨ hb ed = none) → AW g M (2 + 2 * k) (7 + 102 * k) 16 [some (.ref f), some (.ref q), some (.ref it), none, none] [] h1 := by
    intro j0
    induction j0 with
    | zero => intro k last h1 B ed cap mq lx b1 b2; omega
    | succ j0 ih =>
      intro k last h1 B ed cap mq lx z1 z2 hX hl hlx hxs hBit hsB hed
      have hit1 := hX.ss _ _ hBit
      refine a_aload_n cx dX2_makeRound_16 rfl ?_
      refine c_F cx (j8_hasNext cx.htr hit1 hX.lb.1 (by have := hX.nh; omega) (by omega)) (lw_F q322 q333 q335 q88 q337) (by decide +kernel) ⟨by decide, by decide, by decide +kernel⟩ (RN.of rfl rfl rfl rfl) rfl hit1 rfl rfl rfl (Nat.le_of_ble_eq_true rfl) dX2_makeRound_17 (by omega) (by omega) (pK ?_) (fun E9 q9 h9 hx9 => hx9.elim)
      refine a_if_eq cx (tgt := 52) dX2_makeRound_22 (by decide) (fun c22 => ?_) (fun c22 => ?_)
      · have d0 : k = nH s := (bne_eq_false_iff_eq.mp ((bI_0 _).mp c22)).trans hX.nh
        subst d0
        refine a_aload_n cx dX2_makeRound_52 rfl ?_
        refine a_get cx fl_X2_12.g dX2_makeRound_53 hX.o (by exact rfl) ?_
        refine c_V cx (j2_iterator cx.htr hX.la.1) (lw_V q298 q299 q300 q81 q301) dn_J2_iterator (RN.of rfl rfl rfl rfl) rfl hX.la.1 rfl rfl rfl (Nat.le_of_ble_eq_true rfl) dX2_makeRound_56 (by omega) (by omega) (fun v9 h hp9 => ?_) (fun E9 q9 h9 hx9 => hx9.elim)
        obtain ⟨it2, n56, hB56, rfl, rfl⟩ := hp9
        have hit20 := ne_gs cx.hG hB56
        have nit2 := hX.ss.none n56
        have hY0 := hX.put (q := it2) (e := itE 0 (-1) ma a) hit20 (Or.inr n56)
        refine a_astore_n cx dX2_makeRound_59 (Nat.le_of_ble_eq_true rfl) rfl ?_
        have loop2 : ∀ (j1 k : Nat) (last : Int32) (h3 : AH), k ≤ nS s → nS s < k + j1 → FA g (hset B it2 (itE (nI k) last ma a)) h3 f (g2 s k) a ea ma ca b eb mb cb d ls lh → AW g M 15 623 60 [some (.ref f), some (.ref q), some (.ref it2), none, none] [] h3 := by
          intro j1
          induction j1 with
          | zero => intro k last h3 b1 b2; omega
          | succ j1 ih2 =>
            intro k last h3 z3 z4 hY
            have hit3 := hY.ss _ _ (hset_s _ _ _)
            have eS : nS (g2 s k) = nS s := nS_of (g2_fx fx0 k)
            have eH : nH (g2 s k) = nH s := nH_of (g2_fx fx1 k)
            refine a_aload_n cx dX2_makeRound_60 rfl ?_
            refine c_F cx (j8_hasNext cx.htr hit3 hY.la.1 (by have := hY.nl; omega) (by omega)) (lw_F q322 q333 q335 q88 q337) (by decide +kernel) ⟨by decide, by decide, by decide +kernel⟩ (RN.of rfl rfl rfl rfl) rfl hit3 rfl rfl rfl (Nat.le_of_ble_eq_true rfl) dX2_makeRound_61 (by omega) (by omega) (pK ?_) (fun E9 q9 h9 hx9 => hx9.elim)
            refine a_if_eq cx (tgt := 92) dX2_makeRound_66 (by decide) (fun c66 => ?_) (fun c66 => ?_)
            · have d1 : k = nS s := (bne_eq_false_iff_eq.mp ((bI_0 _).mp c66)).trans (hY.nl.trans eS)
              subst d1
              have hZ0 : FA g B h3 f (rA s) a ea ma ca b eb mb cb d ls lh := hY.less (sub.new nit2)
              have wA := g3_all (rA_WS hS) hWA hXA hPA
              refine a_iconst cx (v := 0) dX2_makeRound_92 (by decide) ?_
              refine a_istore_n cx dX2_makeRound_93 (Nat.le_of_ble_eq_true rfl) rfl ?_
              have loop3 : ∀ (j1 j : Nat) (h3 : AH), j ≤ nH s → nH s < j + j1 → FA g B h3 f (g3 (rA s) j) a ea ma ca b eb mb cb d ls lh → AW g M (15 + 7 * j) (623 + 14 * j) 94 [some (.ref f), some (.ref q), some (.int (nI j)), none, none] [] h3 := by
                intro j1
                induction j1 with
                | zero => intro j h3 b1 b2; omega
                | succ j1 ih3 =>
                  intro j h3 z5 z6 hZ
                  obtain ⟨w1, w2, w3, w4⟩ := wA j
                  have eS : nS (g3 (rA s) j) = nS s := nS_of ((g3_lo (by omega) j).trans (rA_fx fx0))
                  have eH : nH (g3 (rA s) j) = nH s := nH_of ((g3_lo (by omega) j).trans (rA_fx fx1))
                  refine AW.hk fun hkj => ?_
                  refine a_iload_n cx dX2_makeRound_94 rfl ?_
                  refine a_aload_n cx dX2_makeRound_95 rfl ?_
                  refine a_get cx fl_X2_18.g dX2_makeRound_96 hZ.o (by exact rfl) ?_
                  refine c_V cx (j2_size cx.htr hZ.lb.1) (lw_V q638 q274 q275 q81 q276) dn_J2_size (RN.of rfl rfl rfl rfl) rfl hZ.lb.1 rfl rfl rfl (Nat.le_of_ble_eq_true rfl) dX2_makeRound_99 (by omega) (by omega) (pK ?_) (fun E9 q9 h9 hx9 => hx9.elim)
                  refine AW.topi (congrArg nI (hZ.nh.trans eH)) ?_
                  refine a_icmp_ge cx (tgt := 144) dX2_makeRound_102 (by decide) (fun c102 => ?_) (fun c102 => ?_)
                  · have d102 := le_nI c102 (by omega) (by omega)
                    have e102 : j = nH s := by omega
                    subst e102
                    have hV0 : FA g B h3 f (rB s) a ea ma ca b eb mb cb d ls lh := hZ
                    refine a_iconst cx (v := 0) dX2_makeRound_144 (by decide) ?_
                    refine a_istore_n cx dX2_makeRound_145 (Nat.le_of_ble_eq_true rfl) rfl ?_
                    have loop4 : ∀ (j1 j : Nat) (h3 : AH), j ≤ nH s → nH s < j + j1 → FA g B h3 f (g4 (rB s) j) a ea ma ca b eb mb cb d ls lh → AW g M (57 + 3 * j) (707 + 8 * j) 146 [some (.ref f), some (.ref q), some (.int (nI j)), none, none] [] h3 := by
                      intro j1
                      induction j1 with
                      | zero => intro j h3 b1 b2; omega
                      | succ j1 ih4 =>
                        intro j h3 z7 z8 hZ
                        have eS : nS (g4 (rB s) j) = nS s := nS_of ((g4_fx fx0 j).trans (rB_fx fx0))
                        have eH : nH (g4 (rB s) j) = nH s := nH_of ((g4_fx fx1 j).trans (rB_fx fx1))
                        have w5 : ∀ k, k < nS (g4 (rB s) j) → isO (g4 (rB s) j (63 + k)) (nH (g4 (rB s) j)) := fun k hk => by
                          rw [eH]
                          exact g4_of (by rw [nS_of (rB_fx fx0)]; exact hS.2.1) (by rw [nS_of (rB_fx fx0)]; exact rB_of hS) j (by omega) k (by rw [nS_of (rB_fx fx0)]; omega)
                        have w6 : WW (g4 (rB s) j) := WW_of hP.w ((g4_fx fx0 j).trans (rB_fx fx0)) (fun k hk => (g4_fx ⟨by omega, by omega, by omega⟩ j).trans (rB_fx ⟨by omega, by omega, by omega⟩)) (by omega)
                        refine AW.hk fun hkj => ?_
                        refine a_iload_n cx dX2_makeRound_146 rfl ?_
                        refine a_aload_n cx dX2_makeRound_147 rfl ?_
                        refine a_get cx fl_X2_18.g dX2_makeRound_148 hZ.o (by exact rfl) ?_
                        refine c_V cx (j2_size cx.htr hZ.lb.1) (lw_V q638 q274 q275 q81 q276) dn_J2_size (RN.of rfl rfl rfl rfl) rfl hZ.lb.1 rfl rfl rfl (Nat.le_of_ble_eq_true rfl) dX2_makeRound_151 (by omega) (by omega) (pK ?_) (fun E9 q9 h9 hx9 => hx9.elim)
                        refine AW.topi (congrArg nI (hZ.nh.trans eH)) ?_
                        refine a_icmp_ge cx (tgt := 218) dX2_makeRound_154 (by decide) (fun c154 => ?_) (fun c154 => ?_)
                        · have d154 := le_nI c154 (by omega) (by omega)
                          have e154 : j = nH s := by omega
                          subst e154
                          have hU0 : FA g B h3 f (rC s) a ea ma ca b eb mb cb d ls lh := hZ
                          refine a_aload_n cx dX2_makeRound_218 rfl ?_
                          refine a_dup cx dX2_makeRound_219 rfl ?_
                          refine a_get cx fl_X2_61.g dX2_makeRound_220 hU0.o (by exact rfl) ?_
                          refine a_iconst cx (v := 1) dX2_makeRound_223 (by decide) ?_
                          refine a_iadd cx dX2_makeRound_224 ?_
                          refine a_put cx fl_X2_61 dX2_makeRound_225 hU0.o rfl rfl (by exact (Nat.le_of_ble_eq_true rfl)) ?_
                          have hGd := hU0.ctr (s' := ground s) (fun q h2 h3 h4 h5 => by rw [ground_eq, upd_n h2])
                          obtain ⟨h5, eh5⟩ : ∃ z, z = hset h3 f (eO 1 [.ref a, .ref b, .ref d, .int (ground s 2), .int (ground s 3), .int (ground s 4), .int (ground s 5)]) := ⟨_, rfl⟩
                          rw [← eh5] at hGd
                          refine AW.cast (k := _) rfl rfl ?_
                          show AW g M _ _ _ _ _ (hset h3 f (eO 1 [.ref a, .ref b, .ref d, .int (ground s 2), .int (ground s 3), .int (ground s 4), .int (ground s 5)]))
                          rw [← eh5]
                          refine a_iconst cx (v := 0) dX2_makeRound_228 (by decide) ?_
                          refine a_istore_n cx dX2_makeRound_229 (Nat.le_of_ble_eq_true rfl) rfl ?_
                          refine a_iconst cx (v := 0) dX2_makeRound_230 (by decide) ?_
                          refine a_istore_n cx dX2_makeRound_231 (Nat.le_of_ble_eq_true rfl) rfl ?_
                          have loop5 : ∀ (j1 k : Nat), k ≤ nH s → nH s < k + j1 → AW g M 75 755 232 [some (.ref f), some (.ref q), some (.int (nI (mvd s (ground s) k))), some (.int (nI k)), none] [] h5 := by
                            intro j1
                            induction j1 with
                            | zero => intro k b1 b2; omega
                            | succ j1 ih5 =>
                              intro k z9 z10
                              refine a_iload_n cx dX2_makeRound_232 rfl ?_
                              refine a_aload_n cx dX2_makeRound_233 rfl ?_
                              refine a_get cx fl_X2_18.g dX2_makeRound_234 hGd.o (by exact rfl) ?_
                              refine c_V cx (j2_size cx.htr hGd.lb.1) (lw_V q638 q274 q275 q81 q276) dn_J2_size (RN.of rfl rfl rfl rfl) rfl hGd.lb.1 rfl rfl rfl (Nat.le_of_ble_eq_true rfl) dX2_makeRound_237 (by omega) (by omega) (pK ?_) (fun E9 q9 h9 hx9 => hx9.elim)
                              refine AW.topi (congrArg nI (hGd.nh.trans eG)) ?_
                              refine a_icmp_ge cx (tgt := 282) dX2_makeRound_240 (by decide) (fun c240 => ?_) (fun c240 => ?_)
                              · have d240 := le_nI c240 (by omega) (by omega)
                                have e240 : k = nH s := by omega
                                subst e240
                                refine a_iload_n cx dX2_makeRound_282 rfl ?_
                                exact a_iret cx hq dX2_makeRound_283 ⟨rfl, hGd.less hsB⟩ (by omega) (by omega)
                              · have d240 := nle_nI c240 (by omega) (by omega)
                                have hk' : k < nH (ground s) := by rw [eG]; exact d240
                                have hbx := hGd.ss _ _ (hxs k d240)
                                have hz := d_zero ((hPG k hk').1) ((hPG k hk').2) ((hP.2 k d240).1) ((hP.2 k d240).2)
                                refine a_iload_n cx dX2_makeRound_243 rfl ?_
                                refine a_aload_n cx dX2_makeRound_244 rfl ?_
                                refine a_get cx fl_X2_18.g dX2_makeRound_245 hGd.o (by exact rfl) ?_
                                refine a_iload_n cx dX2_makeRound_248 rfl ?_
                                refine c_V cx (j2_get (i := k) cx.htr hGd.lb (by rw [hGd.nh]; exact hk')) (lw_V q639 q426 q427 q81 q428) dn_J2_get (RN.of rfl rfl rfl rfl) rfl hGd.lb.1 rfl rfl rfl (Nat.le_of_ble_eq_true rfl) dX2_makeRound_249 (by omega) (by omega) (pK ?_) (fun E9 q9 h9 hx9 => hx9.elim)
                                refine a_castS (r := (RX5, TX5, 2)) cx q563 dX2_makeRound_252 (hGd.hu hk') rfl ?_
                                refine a_aload_n cx dX2_makeRound_255 rfl ?_
                                refine a_iload_n cx dX2_makeRound_256 rfl ?_
                                refine c_V cx (j2_get (i := k) cx.htr (hl.sub hGd.ss) (by omega)) (lw_V q639 q426 q427 q81 q428) dn_J2_get (RN.of rfl rfl rfl rfl) rfl ((hl.sub hGd.ss).1) rfl rfl rfl (Nat.le_of_ble_eq_true rfl) dX2_makeRound_257 (by omega) (by omega) (pK ?_) (fun E9 q9 h9 hx9 => hx9.elim)
                                refine a_castI (RX5, TX5, 2) cx q640 q577 dX2_makeRound_260 hbx rfl ?_
                                refine c_VD (na := 1) cx (f8_isAthh (w1 := 0) (u1 := 0) (w2 := 0) (u2 := 0) cx.htr (hGd.hu hk') hbx) (lw_meth q740) (List.mem_of_getElem? (i := 2) rfl) (List.mem_of_getElem? (i := 3) rfl) q736 q738 q107 (by decide +kernel) (RN.of rfl rfl rfl rfl) rfl (by decide +kernel) (hGd.hu hk') rfl rfl rfl (Nat.le_of_ble_eq_true rfl) dX2_makeRound_263 (by omega) (by omega) (pK ?_)
                                refine a_if_eq cx (tgt := 273) dX2_makeRound_266 (by decide) (fun c266 => ?_) (fun c266 => ?_)
                                · have hmv : mvd s (ground s) (k + 1) = mvd s (ground s) k + 1 := by rw [mvd, if_neg (fun z => of_decide_eq_false ((bI_0 _).mp c266) (hz.mpr z))]
                                  refine a_iconst cx (v := 1) dX2_makeRound_273 (by decide) ?_
                                  refine a_iadd cx dX2_makeRound_274 ?_
                                  refine AW.topi (nI_1 _) ?_
                                  refine a_istore_n cx dX2_makeRound_275 (Nat.le_of_ble_eq_true rfl) rfl ?_
                                  refine a_iincN cx dX2_makeRound_276 rfl (Nat.le_of_ble_eq_true rfl) rfl ?_
                                  refine a_goto cx (tgt := 232) dX2_makeRound_279 (by decide) ?_
                                  have hgo := ih5 (k + 1) (by omega) (by omega)
                                  rw [hmv] at hgo
                                  exact AW.widen (by omega) (by omega) hgo
                                · have hmv : mvd s (ground s) (k + 1) = mvd s (ground s) k := by rw [mvd, if_pos (hz.mp (of_decide_eq_true (bI_n0 c266)))]; exact Nat.add_zero _
                                  refine a_iconst cx (v := 0) dX2_makeRound_269 (by decide) ?_
                                  refine a_goto cx (tgt := 274) dX2_makeRound_270 (by decide) ?_
                                  refine a_iadd cx dX2_makeRound_274 ?_
                                  refine AW.topi (show _ = nI (mvd s (ground s) k) from Int32.add_zero _) ?_
                                  refine a_istore_n cx dX2_makeRound_275 (Nat.le_of_ble_eq_true rfl) rfl ?_
                                  refine a_iincN cx dX2_makeRound_276 rfl (Nat.le_of_ble_eq_true rfl) rfl ?_
                                  refine a_goto cx (tgt := 232) dX2_makeRound_279 (by decide) ?_
                                  have hgo := ih5 (k + 1) (by omega) (by omega)
                                  rw [hmv] at hgo
                                  exact AW.widen (by omega) (by omega) hgo
                          exact AW.widen (by omega) (by omega) (AW.loc (show lle [some (.ref f), some (.ref q), some (.int (nI (mvd s (ground s) 0))), some (.int (nI 0)), none] _ from ⟨rfl, rfl, rfl, rfl, trivial⟩) (loop5 (nH s + 1) 0 (Nat.zero_le _) (by omega)))
                        · have d154 := nle_nI c154 (by omega) (by omega)
                          have hj' : j < nH (g4 (rB s) j) := by rw [eH]; exact d154
                          refine a_aload_n cx dX2_makeRound_157 rfl ?_
                          refine a_iload_n cx dX2_makeRound_158 rfl ?_
                          refine c_V cx (f2_flock (f := f) (u := nI j) cx.htr) (lw_V q659 q660 q661 q78 q662) dn_X2_flock (RN.of rfl rfl rfl rfl) rfl hZ.o rfl rfl rfl (Nat.le_of_ble_eq_true rfl) dX2_makeRound_159 (by omega) (by omega) (fun v9 h hp9 => ?_) (fun E9 q9 h9 hx9 => hx9.elim)
                          obtain ⟨fl, rfl, nf, hBf, rfl⟩ := hp9
                          have hZ1 := hZ.up (sub.new nf (e := flE (nI j) f))
                          refine c_V cx (f10_isEmpty cx.htr hZ1 (by omega) (hset_s _ _ _)) (lw_V q678 q679 q680 q110 q681) dn_X10_isEmpty (RN.of rfl rfl rfl rfl) rfl (hset_s _ _ _) rfl rfl rfl (Nat.le_of_ble_eq_true rfl) dX2_makeRound_162 (by omega) (by omega) (pK ?_) (fun E9 q9 h9 hx9 => hx9.elim)
                          refine AW.hm (sub.new nf) (fun _ => hkj) ?_
                          refine a_if_eq cx (tgt := 175) dX2_makeRound_165 (by decide) (fun c165 => ?_) (fun c165 => ?_)
                          · have c0 : ¬ cnt (g4 (rB s) j) (nI j) (nS (g4 (rB s) j)) = 0 := of_decide_eq_false ((bI_0 _).mp c165)
                            have hZ9 : FA g B h3 f (g4 (rB s) (j + 1)) a ea ma ca b eb mb cb d ls lh := by rw [g4, g4s_e c0]; exact hZ
                            refine a_null cx dX2_makeRound_175 ?_
                            refine a_astore_n cx dX2_makeRound_176 (Nat.le_of_ble_eq_true rfl) rfl ?_
                            refine a_aload_n cx dX2_makeRound_177 rfl ?_
                            refine a_ifnullN cx (tgt := 212) dX2_makeRound_178 (by decide) ?_
                            refine a_iincN cx dX2_makeRound_212 rfl (Nat.le_of_ble_eq_true rfl) rfl ?_
                            refine a_goto cx (tgt := 146) dX2_makeRound_215 (by decide) ?_
                            refine AW.widen ?_ ?_ (AW.loc ?_ (ih4 (j + 1) _ (by omega) (by omega) hZ9))
                            · omega
                            · omega
                            · exact ⟨rfl, rfl, rfl, trivial⟩
                          · have c0 : cnt (g4 (rB s) j) (nI j) (nS (g4 (rB s) j)) = 0 := of_decide_eq_true (bI_n0 c165)
                            refine a_aload_n cx dX2_makeRound_168 rfl ?_
                            refine c_V cx (f2_lost cx.htr hZ (by omega) (by omega) w5 w6) (lw_V q728 q730 qs7 q78 q731) dn_X2_lost (RN.of rfl rfl rfl rfl) rfl hZ.o rfl rfl rfl (Nat.le_of_ble_eq_true rfl) dX2_makeRound_169 (by omega) (by omega) (pK ?_) (fun E9 q9 h9 hx9 => hx9.elim)
                            refine a_goto cx (tgt := 176) dX2_makeRound_172 (by decide) ?_
                            refine a_astore_n cx dX2_makeRound_176 (Nat.le_of_ble_eq_true rfl) rfl ?_ (isR_rf _)
                            refine a_aload_n cx dX2_makeRound_177 rfl ?_ (isR_rf _)
                            rcases ho : outl (g4 (rB s) j) with _ | k
                            · have hZ9 : FA g B h3 f (g4 (rB s) (j + 1)) a ea ma ca b eb mb cb d ls lh := by rw [g4, g4s_n c0 ho]; exact hZ
                              refine a_ifnullN cx (tgt := 212) dX2_makeRound_178 (by decide) ?_
                              refine a_iincN cx dX2_makeRound_212 rfl (Nat.le_of_ble_eq_true rfl) rfl ?_
                              refine a_goto cx (tgt := 146) dX2_makeRound_215 (by decide) ?_
                              refine AW.widen ?_ ?_ (AW.loc ?_ (ih4 (j + 1) _ (by omega) (by omega) hZ9))
                              · omega
                              · omega
                              · exact ⟨rfl, rfl, rfl, trivial⟩
                            · have hk := outl_lt ho
                              refine a_ifnull cx dX2_makeRound_178 ?_
                              refine a_aload_n cx dX2_makeRound_181 rfl ?_
                              refine a_aload_n cx dX2_makeRound_182 rfl ?_
                              refine a_iload_n cx dX2_makeRound_183 rfl ?_
                              refine c_V cx (f2_belong (v := nI j) cx.htr hZ (by omega) hk) (lw_V q655 q657 qs6 q78 q658) dn_X2_belong (RN.of rfl rfl rfl rfl) rfl hZ.o rfl rfl rfl (Nat.le_of_ble_eq_true rfl) dX2_makeRound_184 (by omega) (by omega) (fun v9 h hp9 => ?_) (fun E9 q9 h9 hx9 => hx9.elim)
                              obtain ⟨rfl, hZ1⟩ := hp9
                              have b0 : nS (bel (g4 (rB s) j) k (nI j)) = nS s := (nS_of (bel_n (by omega) (by omega))).trans eS
                              have b1 : nH (bel (g4 (rB s) j) k (nI j)) = nH s := (nH_of (bel_n (by omega) (by omega))).trans eH
                              obtain ⟨t1, et1⟩ : ∃ z, z = bel (g4 (rB s) j) k (nI j) := ⟨_, rfl⟩
                              rw [← et1] at hZ1 b0 b1
                              have hk1 : k < nS t1 := by omega
                              have hj1 : j < nH t1 := by omega
                              have hZ2 := hZ1.hut (s' := upd (upd t1 (81 + j) (t1 (9 + k))) (87 + j) (upd t1 (81 + j) (t1 (9 + k)) (27 + k))) hj1 (by omega) (by omega) (fun q h1 h2 => by rw [upd_n h2, upd_n h1])
                              rw [upd_n (show 81 + j ≠ 87 + j by omega), upd_s, upd_s, upd_n (show 27 + k ≠ 81 + j by omega)] at hZ2
                              refine a_aload_n cx dX2_makeRound_187 rfl ?_
                              refine a_get cx fl_X2_18.g dX2_makeRound_188 hZ1.o (by exact rfl) ?_
                              refine a_iload_n cx dX2_makeRound_191 rfl ?_
                              refine c_V cx (j2_get (i := j) cx.htr hZ1.lb (by rw [hZ1.nh]; exact hj1)) (lw_V q639 q426 q427 q81 q428) dn_J2_get (RN.of rfl rfl rfl rfl) rfl hZ1.lb.1 rfl rfl rfl (Nat.le_of_ble_eq_true rfl) dX2_makeRound_192 (by omega) (by omega) (pK ?_) (fun E9 q9 h9 hx9 => hx9.elim)
                              refine a_castS (r := (RX5, TX5, 2)) cx q563 dX2_makeRound_195 (hZ1.hu hj1) rfl ?_
                              refine a_aload_n cx dX2_makeRound_198 rfl ?_
                              refine c_V cx (f5_gos cx.htr (hZ1.hu hj1) (hZ1.sh hk1) (fun z => by have := hZ1.hu hj1; rw [← z, hZ1.sh hk1] at this; cases this)) (lw_V q727 q570 q571 q100 q572) dn_X5_go (RN.of rfl rfl rfl rfl) rfl (hZ1.hu hj1) rfl rfl rfl (Nat.le_of_ble_eq_true rfl) dX2_makeRound_199 (by omega) (by omega) (pV ?_) (fun E9 q9 h9 hx9 => hx9.elim)
                              refine a_aload_n cx dX2_makeRound_202 rfl ?_
                              refine a_dup cx dX2_makeRound_203 rfl ?_
                              refine a_get cx fl_X2_65.g dX2_makeRound_204 hZ2.o (by exact rfl) ?_
                              refine a_iconst cx (v := 1) dX2_makeRound_207 (by decide) ?_
                              refine a_iadd cx dX2_makeRound_208 ?_
                              refine a_put cx fl_X2_65 dX2_makeRound_209 hZ2.o rfl rfl (by exact (Nat.le_of_ble_eq_true rfl)) ?_
                              have hZ3 := hZ2.ctr (s' := upd (upd (upd t1 (81 + j) (t1 (9 + k))) (87 + j) (t1 (27 + k))) 3 (upd (upd t1 (81 + j) (t1 (9 + k))) (87 + j) (t1 (27 + k)) 3 + 1)) (fun q _ h3 _ _ => upd_n h3)
                              have e9 := (g4k_eq et1 (by omega)).trans (show g4k (g4 (rB s) j) j k = g4 (rB s) (j + 1) by rw [g4, g4s_k c0 ho])
                              have hZ9 := hZ3.to (congrFun e9.symm 0) (congrFun e9.symm 1) (fun q _ _ => congrFun e9.symm q)
                              refine a_iincN cx dX2_makeRound_212 rfl (Nat.le_of_ble_eq_true rfl) rfl ?_
                              refine a_goto cx (tgt := 146) dX2_makeRound_215 (by decide) ?_
                              refine AW.widen ?_ ?_ (AW.loc ?_ (ih4 (j + 1) _ (by omega) (by omega) hZ9))
                              · omega
                              · omega
                              · exact ⟨rfl, rfl, rfl, trivial⟩
                    exact AW.widen (by omega) (by omega) (loop4 (nH s + 1) 0 _ (Nat.zero_le _) (by omega) hV0)
                  · have d102 := nle_nI c102 (by omega) (by omega)
                    have hj' : j < nH (g3 (rA s) j) := by rw [eH]; exact d102
                    refine a_aload_n cx dX2_makeRound_105 rfl ?_
                    refine a_iload_n cx dX2_makeRound_106 rfl ?_
                    refine c_V cx (f2_flock (f := f) (u := nI j) cx.htr) (lw_V q659 q660 q661 q78 q662) dn_X2_flock (RN.of rfl rfl rfl rfl) rfl hZ.o rfl rfl rfl (Nat.le_of_ble_eq_true rfl) dX2_makeRound_107 (by omega) (by omega) (fun v9 h hp9 => ?_) (fun E9 q9 h9 hx9 => hx9.elim)
                    obtain ⟨fl, rfl, nf, hBf, rfl⟩ := hp9
                    have hZ1 := hZ.up (sub.new nf (e := flE (nI j) f))
                    refine c_V cx (f10_isEmpty cx.htr hZ1 (by omega) (hset_s _ _ _)) (lw_V q678 q679 q680 q110 q681) dn_X10_isEmpty (RN.of rfl rfl rfl rfl) rfl (hset_s _ _ _) rfl rfl rfl (Nat.le_of_ble_eq_true rfl) dX2_makeRound_110 (by omega) (by omega) (pK ?_) (fun E9 q9 h9 hx9 => hx9.elim)
                    refine AW.hm (sub.new nf) (fun _ => hkj) ?_
                    refine a_if_ne cx (tgt := 138) dX2_makeRound_113 (by decide) (fun c113 => ?_) (fun c113 => ?_)
                    · have c0 : cnt (g3 (rA s) j) (nI j) (nS (g3 (rA s) j)) = 0 := of_decide_eq_true (bI_n0 c113)
                      have hZ9 : FA g B h3 f (g3 (rA s) (j + 1)) a ea ma ca b eb mb cb d ls lh := by rw [g3, g3s_e c0]; exact hZ
                      refine a_iincN cx dX2_makeRound_138 rfl (Nat.le_of_ble_eq_true rfl) rfl ?_
                      refine a_goto cx (tgt := 94) dX2_makeRound_141 (by decide) ?_
                      refine AW.widen ?_ ?_ (AW.loc ?_ (ih3 (j + 1) _ (by omega) (by omega) hZ9))
                      · omega
                      · omega
                      · exact ⟨rfl, rfl, rfl, trivial⟩
                    · have c0 : ¬ cnt (g3 (rA s) j) (nI j) (nS (g3 (rA s) j)) = 0 := of_decide_eq_false ((bI_0 _).mp c113)
                      refine a_aload_n cx dX2_makeRound_116 rfl ?_
                      refine a_get cx fl_X2_18.g dX2_makeRound_117 hZ.o (by exact rfl) ?_
                      refine a_iload_n cx dX2_makeRound_120 rfl ?_
                      refine c_V cx (j2_get (i := j) cx.htr hZ.lb (by rw [hZ.nh]; exact hj')) (lw_V q639 q426 q427 q81 q428) dn_J2_get (RN.of rfl rfl rfl rfl) rfl hZ.lb.1 rfl rfl rfl (Nat.le_of_ble_eq_true rfl) dX2_makeRound_121 (by omega) (by omega) (pK ?_) (fun E9 q9 h9 hx9 => hx9.elim)
                      refine a_castS (r := (RX5, TX5, 2)) cx q563 dX2_makeRound_124 (hZ.hu hj') rfl ?_
                      refine a_aload_n cx dX2_makeRound_127 rfl ?_
                      refine a_iload_n cx dX2_makeRound_128 rfl ?_
                      refine c_V cx (f2_flock (f := f) (u := nI j) cx.htr) (lw_V q659 q660 q661 q78 q662) dn_X2_flock (RN.of rfl rfl rfl rfl) rfl hZ.o rfl rfl rfl (Nat.le_of_ble_eq_true rfl) dX2_makeRound_129 (by omega) (by omega) (fun v9 h hp9 => ?_) (fun E9 q9 h9 hx9 => hx9.elim)
                      obtain ⟨fl, rfl, nf, hBf, rfl⟩ := hp9
                      have hZ2 := hZ.up (sub.new nf (e := flE (nI j) f))
                      refine c_V cx (f10_middle cx.htr hZ2 (by omega) (hset_s _ _ _) (wt_ne0 w2 (by omega) c0)) (lw_V q700 q701 q702 q110 q703) dn_X10_middle (RN.of rfl rfl rfl rfl) rfl (hset_s _ _ _) rfl rfl rfl (Nat.le_of_ble_eq_true rfl) dX2_makeRound_132 (by omega) (by omega) (fun v9 h hp9 => ?_) (fun E9 q9 h9 hx9 => hx9.elim)
                      obtain ⟨q2, rfl, nq2, hBq2, rfl⟩ := hp9
                      have hZ3 := hZ2.up (sub.new nq2 (e := plE (mid (g3 (rA s) j) (nI j) 9) (mid (g3 (rA s) j) (nI j) 27)))
                      have hZ4 := hZ3.hut (s' := g3s (g3 (rA s) j) j) hj' (by omega) (by omega) (fun q h1 h2 => g3s_n h1 h2)
                      rw [show g3s (g3 (rA s) j) j (81 + j) = mid (g3 (rA s) j) (nI j) 9 by rw [g3s_c c0, upd_s], show g3s (g3 (rA s) j) j (87 + j) = mid (g3 (rA s) j) (nI j) 27 by rw [g3s_c c0, upd_n (by omega), upd_s]] at hZ4
                      refine c_V cx (f5_gop (w := 0) (u := 0) cx.htr (hZ3.hu hj') (hset_s _ _ _) (fun z => by have := hZ2.hu hj'; rw [← z, nq2] at this; cases this)) (lw_V q727 q570 q571 q100 q572) dn_X5_go (RN.of rfl rfl rfl rfl) rfl (hZ3.hu hj') rfl rfl rfl (Nat.le_of_ble_eq_true rfl) dX2_makeRound_135 (by omega) (by omega) (pV ?_) (fun E9 q9 h9 hx9 => hx9.elim)
                      have hZ9 : FA g B _ f (g3 (rA s) (j + 1)) a ea ma ca b eb mb cb d ls lh := hZ4
                      refine a_iincN cx dX2_makeRound_138 rfl (Nat.le_of_ble_eq_true rfl) rfl ?_
                      refine a_goto cx (tgt := 94) dX2_makeRound_141 (by decide) ?_
                      refine AW.widen ?_ ?_ (AW.loc ?_ (ih3 (j + 1) _ (by omega) (by omega) hZ9))
                      · omega
                      · omega
                      · exact ⟨rfl, rfl, rfl, trivial⟩
              exact AW.widen (by omega) (by omega) (AW.loc (show lle [some (.ref f), some (.ref q), some (.int (nI 0)), none, none] _ from ⟨rfl, rfl, rfl, trivial⟩) (loop3 (nH s + 1) 0 _ (Nat.zero_le _) (by omega) hZ0))
            · have d1 : k < nS s := by have q := bne_iff_ne.mp (bI_n0 c66); have := hY.nl; omega
              refine a_aload_n cx dX2_makeRound_69 rfl ?_
              refine c_F cx (j8_next cx.htr hit3 hY.la (by rw [hY.nl, eS]; exact d1)) (lw_F q339 q445 q447 q88 q449) (by decide +kernel) ⟨by decide, by decide, by decide +kernel⟩ (RN.of rfl rfl rfl rfl) rfl hit3 rfl rfl rfl (Nat.le_of_ble_eq_true rfl) dX2_makeRound_70 (by omega) (by omega) (pK ?_) (fun E9 q9 h9 hx9 => hx9.elim)
              have hY2 := hY.put (e := itE (nI (k + 1)) (nI k) ma a) hit20 (Or.inl ⟨_, hset_s _ _ _⟩)
              rw [hset_hset] at hY2
              obtain ⟨h4, eh4⟩ : ∃ z, z = hset h3 it2 (itE (nI (k + 1)) (nI k) ma a) := ⟨_, rfl⟩
              rw [← eh4]
              rw [← eh4] at hY2
              have d1' : k < nS (g2 s k) := by rw [eS]; exact d1
              have hsh := hY2.sh d1'
              refine a_castS (r := (RX4, TX4, 4)) cx q456 dX2_makeRound_75 hsh rfl ?_
              refine a_astore_n cx dX2_makeRound_78 (Nat.le_of_ble_eq_true rfl) rfl ?_
              refine a_aload_n cx dX2_makeRound_79 rfl ?_
              refine a_aload_n cx dX2_makeRound_80 rfl ?_
              refine a_aload_n cx dX2_makeRound_81 rfl ?_
              refine a_aload_n cx dX2_makeRound_82 rfl ?_
              refine c_V cx (f2_nearests cx.htr hY2 (by omega) (by omega) hsh) (lw_V q634 q635 q636 q78 q637) dn_X2_nearest (RN.of rfl rfl rfl rfl) rfl hY2.o rfl rfl rfl (Nat.le_of_ble_eq_true rfl) dX2_makeRound_83 (by omega) (by omega) (pK ?_) (fun E9 q9 h9 hx9 => hx9.elim)
              refine AW.topi (show _ = oI (nearO (g2 s k) k) from rfl) ?_
              refine c_V cx (f2_belong cx.htr hY2 (by omega) d1') (lw_V q655 q657 qs6 q78 q658) dn_X2_belong (RN.of rfl rfl rfl rfl) rfl hY2.o rfl rfl rfl (Nat.le_of_ble_eq_true rfl) dX2_makeRound_86 (by omega) (by omega) (fun v9 h hp9 => ?_) (fun E9 q9 h9 hx9 => hx9.elim)
              obtain ⟨rfl, hY4⟩ := hp9
              refine a_goto cx (tgt := 60) dX2_makeRound_89 (by decide) ?_
              refine AW.widen ?_ ?_ (AW.loc ?_ (ih2 (k + 1) (nI k) _ (by omega) (by omega) hY4))
              · omega
              · omega
              · exact ⟨rfl, rfl, rfl, trivial⟩
        exact AW.widen (by omega) (by omega) (loop2 (nS s + 1) 0 (-1) _ (Nat.zero_le _) (by omega) hY0)
      · have d0 : k < nH s := by have q := bne_iff_ne.mp (bI_n0 c22); have := hX.nh; omega
        refine a_aload_n cx dX2_makeRound_25 rfl ?_
        refine c_F cx (j8_next cx.htr hit1 hX.lb (by rw [hX.nh]; exact d0)) (lw_F q339 q445 q447 q88 q449) (by decide +kernel) ⟨by decide, by decide, by decide +kernel⟩ (RN.of rfl rfl rfl rfl) rfl hit1 rfl rfl rfl (Nat.le_of_ble_eq_true rfl) dX2_makeRound_26 (by omega) (by omega) (pK ?_) (fun E9 q9 h9 hx9 => hx9.elim)
        have hX2 := hX.put (e := itE (nI (k + 1)) (nI k) mb b) hit0 (Or.inl ⟨_, hBit⟩)
        obtain ⟨h2, eh2⟩ : ∃ z, z = hset h1 it (itE (nI (k + 1)) (nI k) mb b) := ⟨_, rfl⟩
        rw [← eh2]
        rw [← eh2] at hX2
        obtain ⟨B2, eB2⟩ : ∃ z, z = hset B it (itE (nI (k + 1)) (nI k) mb b) := ⟨_, rfl⟩
        rw [← eB2] at hX2
        have hl2 : AL g B2 q ed mq cap lx := by rw [eB2]; exact hl.off hBit nofun nofun
        have hxs2 : ∀ j, j < k → B2 (lx.getD j 0) = some (huE (s (81 + j)) (s (87 + j))) := fun j hj => by rw [eB2]; exact (hset_n (fun z => by have := hxs j hj; rw [z, hBit] at this; cases this)).trans (hxs j hj)
        have hit2 : B2 it = some (itE (nI (k + 1)) (nI k) mb b) := by rw [eB2]; exact hset_s _ _ _
        have hsB2 : sub hb B2 := by rw [eB2]; exact hsB.set nit
        have hhu := hX2.hu d0
        refine a_castS (r := (RX5, TX5, 2)) cx q563 dX2_makeRound_31 hhu rfl ?_
        refine a_astore_n cx dX2_makeRound_34 (Nat.le_of_ble_eq_true rfl) rfl ?_
        refine a_aload_n cx dX2_makeRound_35 rfl ?_
        refine a_new cx nl_X2_50 dX2_makeRound_36 (by omega) (by omega) (fun y n36 hB36 => ?_)
        have hyne : lh.getD k 0 ≠ y := fun z => by rw [z, n36] at hhu; cases hhu
        refine a_dup cx dX2_makeRound_39 rfl ?_
        refine a_aload_n cx dX2_makeRound_40 rfl ?_
        refine c_I cx (f5_inith (w := 0) (u := 0) cx.htr (hset_s _ _ _) ((hset_n hyne).trans hhu) hyne) (lw_meth q567) q100 q565 q566 rfl dn_X5_init (RN.of rfl rfl rfl rfl) rfl rfl (Nat.le_of_ble_eq_true rfl) dX2_makeRound_41 (by omega) (by omega) (pV ?_) (fun E9 q9 h9 hx9 => hx9.elim)
        rw [hset_hset]
        have hX3 := hX2.put (q := y) (e := huE (s (81 + k)) (s (87 + k))) (ne_gs cx.hG hB36) (Or.inr n36)
        have nyB := hX2.ss.none n36
        have hl3 := hl2.sub (sub.new nyB (e := huE (s (81 + k)) (s (87 + k))))
        refine c_V cx (j2_add cx.htr (hl3.sub hX3.ss) (by omega) (isOb_hu (hset_s _ _ _)) (fun z => by have := hl2.1; rw [← z, nyB] at this; cases this) (fun x hx => by obtain ⟨k2, hk2, e⟩ := gD_mem hx; rw [← e]; exact isOb_hu (hX3.ss _ _ (sub.new nyB _ _ (hxs2 k2 (by omega))))) (fun hx => by obtain ⟨k2, hk2, e⟩ := gD_mem hx; have := hxs2 k2 (by omega); rw [e, hl2.1] at this; cases this)) (lw_V q492 q493 q494 q81 q495) dn_J2_add (RN.of rfl rfl rfl rfl) rfl ((hl3.sub hX3.ss).1) rfl rfl rfl (Nat.le_of_ble_eq_true rfl) dX2_makeRound_44 (by omega) (by omega) (fun v9 h hp9 => ?_) (fun E9 q9 h9 hx9 => hx9.elim)
        obtain ⟨rfl, hA⟩ := hp9
        refine AW.hk fun hk8 => ?_
        obtain ⟨B4, ed4, cap4, hX4, hl4, hd4, hfr4⟩ := hX3.outer hl3 hA hk8.2.2.1
        have hfr : ∀ x e, B2 x = some e → x ≠ q → (x = ed → x = gs g 0) → B4 x = some e := fun x e hx h1 h2 => hfr4 x e (sub.new nyB x e hx) h1 h2
        have hned : ∀ x e, B2 x = some e → (∀ m fn, e ≠ eQ (g.2.1 4) m fn) → x ≠ ed := fun x e hx he z => by
          obtain ⟨fn, h9⟩ := hl2.arr
          rw [z, h9] at hx
          exact he _ _ (Option.some.inj hx).symm
        have hlen4 : (lx ++ [y]).length = k + 1 := by rw [List.length_append, hlx]; rfl
        have hxs4 : ∀ j, j < k + 1 → B4 ((lx ++ [y]).getD j 0) = some (huE (s (81 + j)) (s (87 + j))) := fun j hj => by
          by_cases e : j < k
          · rw [gD_a (by omega)]
            have h9 := hxs2 j e
            exact hfr _ _ h9 (fun z => by rw [z, hl2.1] at h9; cases h9) (fun z => absurd z (hned _ _ h9 nofun))
          · have ej : j = k := by omega
            rw [gD_b (by omega), ej]
            exact hfr4 y _ (hset_s _ _ _) (fun z => by have := hl2.1; rw [← z, nyB] at this; cases this) (fun z => by obtain ⟨fn, h9⟩ := hl2.arr; rw [← z, nyB] at h9; cases h9)
        have hit4 : B4 it = some (itE (nI (k + 1)) (nI k) mb b) := hfr it _ hit2 (fun z => by rw [z, hl2.1] at hit2; cases hit2) (fun z => absurd z (hned _ _ hit2 nofun))
        have hsB4 : sub hb B4 := fun x e hx => hfr x e (hsB2 x e hx) (fun z => by rw [z, hnq] at hx; cases hx) (fun z => hed.elim (fun y => z.trans y) (fun y => by rw [z, y] at hx; cases hx))
        have hed4 : ed4 = gs g 0 ∨ hb ed4 = none := hd4.elim (fun z => by rw [z]; exact hed) (fun z => Or.inr ((hsB2.tr (hX2.ss.tr (sub.new n36))).none z))
        refine a_istore cx dX2_makeRound_47 (Nat.le_of_ble_eq_true rfl) rfl ?_
        refine a_goto cx (tgt := 16) dX2_makeRound_49 (by decide) ?_
        refine AW.widen ?_ ?_ (AW.loc ?_ (ih (k + 1) (nI k) _ B4 ed4 cap4 _ _ (by omega) (by omega) hX4 hl4 hlen4 hxs4 hit4 hsB4 hed4))
        · omega
        · omega
        · exact ⟨rfl, rfl, rfl, trivial⟩
  exact AW.widen (by omega) (by omega) (loop (nH s + 1) 0 (-1) _ _ _ _ _ _ (Nat.zero_le _) (by omega) hF2 (hlB.sub (sub.new nitB)) rfl (fun j hj => absurd hj (Nat.not_lt_zero _)) (hset_s _ _ _) (hb1.set nit) (Or.inl rfl))
