/-! THE MODEL: a round, stillness -/
set_option maxRecDepth 100000
theorem mvd_le (s t : SF) : ∀ n, mvd s t n ≤ n := by
  intro n
  induction n with
  | zero => exact Nat.le_refl _
  | succ n ih => rw [mvd]; split <;> omega
theorem ma_11 (σ0 : MS) (t : SF) : (ma σ0 1 t).2 1 = t := ma_at _ _ _
/-- the model's state in a round: the old places laid by, the row t -/
def mR (σ : MS) (N : Nat) (t : SF) : MS := ma (ma (ma σ 10 (cpf (σ.2 10) (fun j => (σ.2 1) (81 + j)) N)) 11 (cpf (σ.2 11) (fun j => (σ.2 1) (87 + j)) N)) 1 t
theorem mR_1 (σ : MS) (N : Nat) (t : SF) : (mR σ N t).2 1 = t := ma_at _ _ _
theorem mR_m (σ : MS) (N : Nat) (t t' : SF) : ma (mR σ N t) 1 t' = mR σ N t' := ma_ma _ _ _ _
theorem mR_0 (σ : MS) (N : Nat) : ma (ma σ 10 (cpf (σ.2 10) (fun j => (σ.2 1) (81 + j)) N)) 11 (cpf (σ.2 11) (fun j => (σ.2 1) (87 + j)) N) = mR σ N (σ.2 1) := (ma_self (ma (ma σ 10 (cpf (σ.2 10) (fun j => (σ.2 1) (81 + j)) N)) 11 (cpf (σ.2 11) (fun j => (σ.2 1) (87 + j)) N)) 1).symm
theorem mR_x (σ : MS) (N : Nat) (t : SF) : SX σ (mR σ N t) t [10, 11] := by
  refine ⟨rfl, mR_1 _ _ _, fun i h1 h2 => ?_⟩
  simp at h2
  unfold mR
  rw [ma_ne h1, ma_ne h2.2, ma_ne h2.1]
theorem ma_sw {σ : MS} {i j : Nat} (h : i ≠ j) (f f' : SF) : ma (ma σ i f) j f' = ma (ma σ j f') i f := by
  unfold ma
  refine Prod.ext rfl (funext fun q => ?_)
  by_cases h1 : q = i
  · subst h1; simp [h]
  · by_cases h2 : q = j
    · subst h2; simp [h1]
    · simp [h1, h2]
abbrev rm_X3_goesRound : Room := { frames := 4, cells := 0, slots := 0, locals := 90 }
set_option maxHeartbeats 4000000 in
theorem k3_goesRound {l : Launch} {g : GP} {ad : Nat → Nat} {σ : MS} (htr : l.stackTraces = false) (hf : WF (σ.2 1)) : MK l g ad yX3_goesRound cX3_goesRound 4 (some .int) rm_X3_goesRound σ [] (fun v σ' => v = some (.int (nI (mvd (σ.2 1) (ground (σ.2 1)) (nH (σ.2 1))))) ∧ SX σ σ' (ground (σ.2 1)) [10, 11]) := by
  refine MK.of (by decide +kernel) htr (Nat.le_of_ble_eq_true rfl) (L0 := [some (.ref (ad 0)), none, none, none]) rfl ?_
  intro M h0 h cx _ hq hm
  obtain ⟨hw, hO, hP⟩ := hf
  obtain ⟨hw1, hw2, hw3, hw4⟩ := id hw
  have hWA : WW (rA (σ.2 1)) := WW_of hP.w (rA_fx fx0) (fun k hk => rA_fx ⟨by omega, by omega, by omega⟩) hw2
  have hB : ∀ k, k ≤ nH (σ.2 1) → WS (g3 (rA (σ.2 1)) k) ∧ WW (g3 (rA (σ.2 1)) k) ∧ True := fun k _ => ⟨WS_of (rA_WS hw) (g3_lo (by decide) k) (g3_lo (by decide) k), WW_of hWA (g3_lo (by decide) k) (fun i hi => g3_lo (by omega) k) (rA_WS hw).2.1, trivial⟩
  have hC : ∀ k, k ≤ nH (σ.2 1) → WS (g4 (rB (σ.2 1)) k) ∧ ∀ i, i < nS (σ.2 1) → isO (g4 (rB (σ.2 1)) k (63 + i)) (nH (σ.2 1)) := fun k hk => ⟨WS_of (rB_WS hw) (g4_fx fx0 k) (g4_fx fx1 k), fun i hi => g4_of (by rw [nS_of (rB_fx fx0)]; exact hw2) (by rw [nS_of (rB_fx fx0)]; exact rB_of hw) k hk i (by rw [nS_of (rB_fx fx0)]; exact hi)⟩
  refine a_aload_n cx dX3_goesRound_0 rfl ?_
  refine a_get cx fl_X3_7.g dX3_goesRound_1 hm.o rfl ?_
  refine a_iconst cx (v := 1) dX3_goesRound_4 (by decide) ?_
  refine a_iald cx dX3_goesRound_5 hm.a1 (show (1 : Int32) = nI 1 from rfl) (by omega) (by decide) ?_
  refine AW.topi hw3 ?_
  refine a_istore_n cx dX3_goesRound_6 (Nat.le_of_ble_eq_true rfl) rfl ?_
  refine a_iconst cx (v := 0) dX3_goesRound_7 (by decide) ?_
  refine a_istore_n cx dX3_goesRound_8 (Nat.le_of_ble_eq_true rfl) rfl ?_
  have loop : ∀ (j k : Nat) (h : AH), k ≤ nH (σ.2 1) → nH (σ.2 1) < k + j → MSt g ad h0 (ma (ma σ 10 (cpf (σ.2 10) (fun j => (σ.2 1) (81 + j)) k)) 11 (cpf (σ.2 11) (fun j => (σ.2 1) (87 + j)) k)) h → AW g M 0 0 9 [some (.ref (ad 0)), some (.int (nI (nH (σ.2 1)))), some (.int (nI k)), none] [] h := by
    intro j
    induction j with
    | zero => intro k h h1 h2; omega
    | succ j ih =>
      intro k h h1 h2 hm
      refine a_iload_n cx dX3_goesRound_9 rfl ?_
      refine a_iload_n cx dX3_goesRound_10 rfl ?_
      refine a_icmp_ge cx (tgt := 50) dX3_goesRound_11 (by decide) (fun c11 => ?_) (fun c11 => ?_)
      · have d11 := le_nI c11 (by omega) (by omega)
        have e11 : k = nH (σ.2 1) := by omega
        subst e11
        replace hm := hm.eq (mR_0 σ _)
        refine a_iconst cx (v := 0) dX3_goesRound_50 (by decide) ?_
        refine a_istore_n cx dX3_goesRound_51 (Nat.le_of_ble_eq_true rfl) rfl ?_
        have loop2 : ∀ (j k : Nat) (h : AH), k ≤ nS (σ.2 1) → nS (σ.2 1) < k + j → MSt g ad h0 (mR σ (nH (σ.2 1)) (g2 (σ.2 1) k)) h → AW g M 0 0 52 [some (.ref (ad 0)), some (.int (nI (nH (σ.2 1)))), some (.int (nI k)), none] [] h := by
          intro j
          induction j with
          | zero => intro k h h1 h2; omega
          | succ j ih2 =>
            intro k h h1 h2 hm
            have hw9 : WS (g2 (σ.2 1) k) := WS_of hw (g2_fx fx0 k) (g2_fx fx1 k)
            refine a_iload_n cx dX3_goesRound_52 rfl ?_
            refine a_aload_n cx dX3_goesRound_53 rfl ?_
            refine a_get cx fl_X3_7.g dX3_goesRound_54 hm.o rfl ?_
            refine a_iconst cx (v := 0) dX3_goesRound_57 (by decide) ?_
            refine a_iald cx dX3_goesRound_58 hm.a1 (show (0 : Int32) = nI 0 from rfl) (by omega) (by decide) ?_
            refine AW.topi (show (mR σ (nH (σ.2 1)) (g2 (σ.2 1) k)).2 1 0 = nI (nS (σ.2 1)) from by rw [mR_1, g2_fx fx0]; exact hw1) ?_
            refine a_icmp_ge cx (tgt := 78) dX3_goesRound_59 (by decide) (fun c59 => ?_) (fun c59 => ?_)
            · have d59 := le_nI c59 (by omega) (by omega)
              have e59 : k = nS (σ.2 1) := by omega
              subst e59
              replace hm := hm.eq (show mR σ (nH (σ.2 1)) (g2 (σ.2 1) (nS (σ.2 1))) = mR σ (nH (σ.2 1)) (rA (σ.2 1)) from rfl)
              refine a_iconst cx (v := 0) dX3_goesRound_78 (by decide) ?_
              refine a_istore_n cx dX3_goesRound_79 (Nat.le_of_ble_eq_true rfl) rfl ?_
              have loop3 : ∀ (j k : Nat) (h : AH), k ≤ nH (σ.2 1) → nH (σ.2 1) < k + j → MSt g ad h0 (mR σ (nH (σ.2 1)) (g3 (rA (σ.2 1)) k)) h → AW g M 0 0 80 [some (.ref (ad 0)), some (.int (nI (nH (σ.2 1)))), some (.int (nI k)), none] [] h := by
                intro j
                induction j with
                | zero => intro k h h1 h2; omega
                | succ j ih3 =>
                  intro k h h1 h2 hm
                  obtain ⟨w1, w2, w3⟩ := hB k (by omega)
                  refine a_iload_n cx dX3_goesRound_80 rfl ?_
                  refine a_iload_n cx dX3_goesRound_81 rfl ?_
                  refine a_icmp_ge cx (tgt := 136) dX3_goesRound_82 (by decide) (fun c82 => ?_) (fun c82 => ?_)
                  · have d82 := le_nI c82 (by omega) (by omega)
                    have e82 : k = nH (σ.2 1) := by omega
                    subst e82
                    replace hm := hm.eq (show mR σ (nH (σ.2 1)) (g3 (rA (σ.2 1)) (nH (σ.2 1))) = mR σ (nH (σ.2 1)) (rB (σ.2 1)) from rfl)
                    refine a_iconst cx (v := 0) dX3_goesRound_136 (by decide) ?_
                    refine a_istore_n cx dX3_goesRound_137 (Nat.le_of_ble_eq_true rfl) rfl ?_
                    have loop4 : ∀ (j k : Nat) (h : AH), k ≤ nH (σ.2 1) → nH (σ.2 1) < k + j → MSt g ad h0 (mR σ (nH (σ.2 1)) (g4 (rB (σ.2 1)) k)) h → AW g M 0 0 138 [some (.ref (ad 0)), some (.int (nI (nH (σ.2 1)))), some (.int (nI k)), none] [] h := by
                      intro j
                      induction j with
                      | zero => intro k h h1 h2; omega
                      | succ j ih4 =>
                        intro k h h1 h2 hm
                        obtain ⟨w1, w2⟩ := hC k (by omega)
                        have w3 := w1.2.1
                        have w4 : nS (g4 (rB (σ.2 1)) k) = nS (σ.2 1) := nS_of ((g4_fx fx0 k).trans (rB_fx fx0))
                        have w5 : nH (g4 (rB (σ.2 1)) k) = nH (σ.2 1) := nH_of ((g4_fx fx1 k).trans (rB_fx fx1))
                        refine a_iload_n cx dX3_goesRound_138 rfl ?_
                        refine a_iload_n cx dX3_goesRound_139 rfl ?_
                        refine a_icmp_ge cx (tgt := 225) dX3_goesRound_140 (by decide) (fun c140 => ?_) (fun c140 => ?_)
                        · have d140 := le_nI c140 (by omega) (by omega)
                          have e140 : k = nH (σ.2 1) := by omega
                          subst e140
                          replace hm := hm.eq (show mR σ (nH (σ.2 1)) (g4 (rB (σ.2 1)) (nH (σ.2 1))) = mR σ (nH (σ.2 1)) (rC (σ.2 1)) from rfl)
                          refine a_aload_n cx dX3_goesRound_225 rfl ?_
                          refine a_get cx fl_X3_7.g dX3_goesRound_226 hm.o rfl ?_
                          refine a_iconst cx (v := 2) dX3_goesRound_229 (by decide) ?_
                          refine a_dup2 cx dX3_goesRound_230 rfl rfl ?_
                          refine a_iald cx dX3_goesRound_231 hm.a1 (show (2 : Int32) = nI 2 from rfl) (by omega) (by decide) ?_
                          refine a_iconst cx (v := 1) dX3_goesRound_232 (by decide) ?_
                          refine a_iadd cx dX3_goesRound_233 ?_
                          refine m_iast cx (i := 0) (by decide) dX3_goesRound_234 hm (show (2 : Int32) = nI 2 from rfl) (show _ < 93 from by omega) (fun h hm => ?_)
                          replace hm := hm.eq ((mR_m σ _ _ _).trans (by rw [ground_eq]; rfl) : _ = mR σ (nH (σ.2 1)) (ground (σ.2 1)))
                          refine a_iconst cx (v := 0) dX3_goesRound_235 (by decide) ?_
                          refine a_istore_n cx dX3_goesRound_236 (Nat.le_of_ble_eq_true rfl) rfl ?_
                          refine a_iconst cx (v := 0) dX3_goesRound_237 (by decide) ?_
                          refine a_istore_n cx dX3_goesRound_238 (Nat.le_of_ble_eq_true rfl) rfl ?_
                          have loop5 : ∀ (j k : Nat) (h : AH), k ≤ nH (σ.2 1) → nH (σ.2 1) < k + j → MSt g ad h0 (mR σ (nH (σ.2 1)) (ground (σ.2 1))) h → AW g M 0 0 239 [some (.ref (ad 0)), some (.int (nI (nH (σ.2 1)))), some (.int (nI (mvd (σ.2 1) (ground (σ.2 1)) k))), some (.int (nI k))] [] h := by
                            intro j
                            induction j with
                            | zero => intro k h h1 h2; omega
                            | succ j ih5 =>
                              intro k h h1 h2 hm
                              have o1 : (mR σ (nH (σ.2 1)) (ground (σ.2 1))).2 10 k = (σ.2 1) (81 + k) ∨ nH (σ.2 1) ≤ k := by
                                rcases Nat.lt_or_ge k (nH (σ.2 1)) with q | q
                                · left; unfold mR; rw [ma_ne (by decide), ma_ne (by decide), ma_at, cpf_lt q]
                                · exact Or.inr q
                              have o2 : (mR σ (nH (σ.2 1)) (ground (σ.2 1))).2 11 k = (σ.2 1) (87 + k) ∨ nH (σ.2 1) ≤ k := by
                                rcases Nat.lt_or_ge k (nH (σ.2 1)) with q | q
                                · left; unfold mR; rw [ma_ne (by decide), ma_at, cpf_lt q]
                                · exact Or.inr q
                              refine a_iload_n cx dX3_goesRound_239 rfl ?_
                              refine a_iload_n cx dX3_goesRound_240 rfl ?_
                              refine a_icmp_ge cx (tgt := 294) dX3_goesRound_241 (by decide) (fun c241 => ?_) (fun c241 => ?_)
                              · have d241 := le_nI c241 (by omega) (by omega)
                                have e241 : k = nH (σ.2 1) := by omega
                                subst e241
                                refine a_iload_n cx dX3_goesRound_294 rfl ?_
                                exact a_iret cx hq dX3_goesRound_295 ⟨_, ⟨rfl, mR_x σ _ _⟩, hm⟩ (Nat.zero_le _) (Nat.zero_le _)
                              · have d241 := nle_nI c241 (by omega) (by omega)
                                replace o1 := o1.resolve_right (by omega)
                                replace o2 := o2.resolve_right (by omega)
                                refine a_iload_n cx dX3_goesRound_244 rfl ?_
                                refine a_aload_n cx dX3_goesRound_245 rfl ?_
                                refine a_get cx fl_X3_7.g dX3_goesRound_246 hm.o rfl ?_
                                refine a_bipush cx (v := 81) dX3_goesRound_249 (by decide) ?_
                                refine a_iload_n cx dX3_goesRound_251 rfl ?_
                                refine a_iadd cx dX3_goesRound_252 ?_
                                refine a_iald cx dX3_goesRound_253 hm.a1 (ix4 _) (by omega) (by decide) ?_
                                refine a_aload_n cx dX3_goesRound_254 rfl ?_
                                refine a_get cx fl_X3_37.g dX3_goesRound_255 hm.o rfl ?_
                                refine a_iload_n cx dX3_goesRound_258 rfl ?_
                                refine a_iald cx dX3_goesRound_259 hm.a10 rfl (by omega) (by decide) ?_
                                have J : ∀ (z : Int32), nI (mvd (σ.2 1) (ground (σ.2 1)) k) + z = nI (mvd (σ.2 1) (ground (σ.2 1)) (k + 1)) → AW g M 0 0 286 [some (.ref (ad 0)), some (.int (nI (nH (σ.2 1)))), some (.int (nI (mvd (σ.2 1) (ground (σ.2 1)) k))), some (.int (nI k))] [.int z, .int (nI (mvd (σ.2 1) (ground (σ.2 1)) k))] h := by
                                  intro z ez
                                  refine a_iadd cx dX3_goesRound_286 ?_
                                  refine AW.topi ez ?_
                                  refine a_istore_n cx dX3_goesRound_287 (Nat.le_of_ble_eq_true rfl) rfl ?_
                                  refine a_iincN cx dX3_goesRound_288 rfl (Nat.le_of_ble_eq_true rfl) rfl ?_
                                  refine a_goto cx (tgt := 239) dX3_goesRound_291 (by decide) ?_
                                  exact ih5 (k + 1) h (by omega) (by omega) hm
                                refine a_icmp_ne cx (tgt := 285) dX3_goesRound_260 (by decide) (fun c260 => ?_) (fun c260 => ?_)
                                · rw [mR_1, o1] at c260
                                  have r : nI (mvd (σ.2 1) (ground (σ.2 1)) k) + 1 = nI (mvd (σ.2 1) (ground (σ.2 1)) (k + 1)) := by rw [mvd, if_neg (fun q => c260 q.1)]; exact nI_add _ 1
                                  refine a_iconst cx (v := 1) dX3_goesRound_285 (by decide) ?_
                                  exact J _ r
                                · rw [mR_1, o1] at c260
                                  refine a_aload_n cx dX3_goesRound_263 rfl ?_
                                  refine a_get cx fl_X3_7.g dX3_goesRound_264 hm.o rfl ?_
                                  refine a_bipush cx (v := 87) dX3_goesRound_267 (by decide) ?_
                                  refine a_iload_n cx dX3_goesRound_269 rfl ?_
                                  refine a_iadd cx dX3_goesRound_270 ?_
                                  refine a_iald cx dX3_goesRound_271 hm.a1 (ix5 _) (by omega) (by decide) ?_
                                  refine a_aload_n cx dX3_goesRound_272 rfl ?_
                                  refine a_get cx fl_X3_40.g dX3_goesRound_273 hm.o rfl ?_
                                  refine a_iload_n cx dX3_goesRound_276 rfl ?_
                                  refine a_iald cx dX3_goesRound_277 hm.a11 rfl (by omega) (by decide) ?_
                                  refine a_icmp_ne cx (tgt := 285) dX3_goesRound_278 (by decide) (fun c278 => ?_) (fun c278 => ?_)
                                  · rw [mR_1, o2] at c278
                                    have r : nI (mvd (σ.2 1) (ground (σ.2 1)) k) + 1 = nI (mvd (σ.2 1) (ground (σ.2 1)) (k + 1)) := by rw [mvd, if_neg (fun q => c278 q.2)]; exact nI_add _ 1
                                    refine a_iconst cx (v := 1) dX3_goesRound_285 (by decide) ?_
                                    exact J _ r
                                  · rw [mR_1, o2] at c278
                                    have r : nI (mvd (σ.2 1) (ground (σ.2 1)) k) + 0 = nI (mvd (σ.2 1) (ground (σ.2 1)) (k + 1)) := by rw [mvd, if_pos ⟨c260, c278⟩]; exact nI_add _ 0
                                    refine a_iconst cx (v := 0) dX3_goesRound_281 (by decide) ?_
                                    refine a_goto cx (tgt := 286) dX3_goesRound_282 (by decide) ?_
                                    exact J _ r
                          exact loop5 (nH (σ.2 1) + 1) 0 h (by omega) (by omega) (hm.eq (by rfl))
                        · have d140 := nle_nI c140 (by omega) (by omega)
                          refine a_aload_n cx dX3_goesRound_143 rfl ?_
                          refine a_iload_n cx dX3_goesRound_144 rfl ?_
                          refine m_calli cx (k3_flock cx.htr (by rw [mR_1]; exact w1)) (lw_V q2137 q2139 qs42 q87 q2140) dn_X3_flock (RN.of rfl rfl rfl rfl) rfl hm rfl rfl (Nat.le_of_ble_eq_true rfl) dX3_goesRound_145 (Nat.zero_le _) (Nat.zero_le _) (fun h hm => ?_)
                          rw [mR_1]
                          refine a_if_le cx (tgt := 154) dX3_goesRound_148 (by decide) (fun c148 => ?_) (fun c148 => ?_)
                          · have hc : ¬ 0 < cnt (g4 (rB (σ.2 1)) k) (nI k) (nS (g4 (rB (σ.2 1)) k)) := fun q => absurd c148 (nI_nle q (by have := cnt_le (g4 (rB (σ.2 1)) k) (nI k) (nS (g4 (rB (σ.2 1)) k)); omega))
                            refine a_aload_n cx dX3_goesRound_154 rfl ?_
                            refine m_calli cx (k3_outlier cx.htr (by rw [mR_1]; exact w1) (by rw [mR_1]; exact fun i hi => by rw [w5]; exact w2 i (by omega))) (lw_V q2213 q2215 qs56 q87 q2216) dn_X3_outlier (RN.of rfl rfl rfl rfl) rfl hm rfl rfl (Nat.le_of_ble_eq_true rfl) dX3_goesRound_155 (Nat.zero_le _) (Nat.zero_le _) (fun h hm => ?_)
                            rw [mR_1]
                            refine a_istore_n cx dX3_goesRound_158 (Nat.le_of_ble_eq_true rfl) rfl ?_
                            refine a_iload_n cx dX3_goesRound_159 rfl ?_
                            refine a_iconst cx (v := -1) dX3_goesRound_160 (by decide) ?_
                            refine a_icmp_ne cx (tgt := 167) dX3_goesRound_161 (by decide) (fun c161 => ?_) (fun c161 => ?_)
                            · obtain ⟨i, hi⟩ : ∃ i, outl (g4 (rB (σ.2 1)) k) = some i := by
                                cases hq : outl (g4 (rB (σ.2 1)) k) with
                                | none => rw [hq] at c161; exact absurd rfl c161
                                | some i => exact ⟨i, rfl⟩
                              have hin := outl_lt hi
                              have r : g4 (rB (σ.2 1)) (k + 1) = g4k (g4 (rB (σ.2 1)) k) k i := by rw [g4, g4s, if_neg hc, hi]
                              refine a_aload_n cx dX3_goesRound_167 rfl ?_
                              refine a_iload_n cx dX3_goesRound_168 rfl ?_
                              refine AW.topi (show oI (outl (g4 (rB (σ.2 1)) k)) = nI i by rw [hi]; rfl) ?_
                              refine a_iload_n cx dX3_goesRound_169 rfl ?_
                              refine m_callv cx (k3_belongs cx.htr (by omega)) (lw_V q2205 q2207 qs54 q87 q2208) dn_X3_belongs (RN.of rfl rfl rfl rfl) rfl hm rfl rfl (Nat.le_of_ble_eq_true rfl) dX3_goesRound_170 (Nat.zero_le _) (Nat.zero_le _) (fun h hm => ?_)
                              replace hm := hm.eq ((mR_m σ _ _ _).trans (by rw [mR_1]) : _ = mR σ (nH (σ.2 1)) (bel (g4 (rB (σ.2 1)) k) i (nI k)))
                              refine a_aload_n cx dX3_goesRound_173 rfl ?_
                              refine a_get cx fl_X3_7.g dX3_goesRound_174 hm.o rfl ?_
                              refine a_bipush cx (v := 81) dX3_goesRound_177 (by decide) ?_
                              refine a_iload_n cx dX3_goesRound_179 rfl ?_
                              refine a_iadd cx dX3_goesRound_180 ?_
                              refine a_aload_n cx dX3_goesRound_181 rfl ?_
                              refine a_get cx fl_X3_7.g dX3_goesRound_182 hm.o rfl ?_
                              refine a_bipush cx (v := 9) dX3_goesRound_185 (by decide) ?_
                              refine a_iload_n cx dX3_goesRound_187 rfl ?_
                              refine AW.topi (show oI (outl (g4 (rB (σ.2 1)) k)) = nI i by rw [hi]; rfl) ?_
                              refine a_iadd cx dX3_goesRound_188 ?_
                              refine a_iald cx dX3_goesRound_189 hm.a1 (ix0 _) (by omega) (by decide) ?_
                              refine m_iast cx (i := 0) (by decide) dX3_goesRound_190 hm (ix4 _) (show _ < 93 from by omega) (fun h hm => ?_)
                              replace hm := hm.eq (mR_m σ _ _ _)
                              refine a_aload_n cx dX3_goesRound_191 rfl ?_
                              refine a_get cx fl_X3_7.g dX3_goesRound_192 hm.o rfl ?_
                              refine a_bipush cx (v := 87) dX3_goesRound_195 (by decide) ?_
                              refine a_iload_n cx dX3_goesRound_197 rfl ?_
                              refine a_iadd cx dX3_goesRound_198 ?_
                              refine a_aload_n cx dX3_goesRound_199 rfl ?_
                              refine a_get cx fl_X3_7.g dX3_goesRound_200 hm.o rfl ?_
                              refine a_bipush cx (v := 27) dX3_goesRound_203 (by decide) ?_
                              refine a_iload_n cx dX3_goesRound_205 rfl ?_
                              refine AW.topi (show oI (outl (g4 (rB (σ.2 1)) k)) = nI i by rw [hi]; rfl) ?_
                              refine a_iadd cx dX3_goesRound_206 ?_
                              refine a_iald cx dX3_goesRound_207 hm.a1 (ix1 _) (by omega) (by decide) ?_
                              refine m_iast cx (i := 0) (by decide) dX3_goesRound_208 hm (ix5 _) (show _ < 93 from by omega) (fun h hm => ?_)
                              replace hm := hm.eq (mR_m σ _ _ _)
                              refine a_aload_n cx dX3_goesRound_209 rfl ?_
                              refine a_get cx fl_X3_7.g dX3_goesRound_210 hm.o rfl ?_
                              refine a_iconst cx (v := 3) dX3_goesRound_213 (by decide) ?_
                              refine a_dup2 cx dX3_goesRound_214 rfl rfl ?_
                              refine a_iald cx dX3_goesRound_215 hm.a1 (show (3 : Int32) = nI 3 from rfl) (by omega) (by decide) ?_
                              refine a_iconst cx (v := 1) dX3_goesRound_216 (by decide) ?_
                              refine a_iadd cx dX3_goesRound_217 ?_
                              refine m_iast cx (i := 0) (by decide) dX3_goesRound_218 hm (show (3 : Int32) = nI 3 from rfl) (show _ < 93 from by omega) (fun h hm => ?_)
                              replace hm := hm.eq (mR_m σ _ _ _)
                              refine a_iincN cx dX3_goesRound_219 rfl (Nat.le_of_ble_eq_true rfl) rfl ?_
                              refine a_goto cx (tgt := 138) dX3_goesRound_222 (by decide) ?_
                              exact (ih4 (k + 1) h (by omega) (by omega) (hm.eq (by rw [r]; try rfl))).loc (by exact ⟨rfl, rfl, rfl, trivial⟩)
                            · have r : g4 (rB (σ.2 1)) (k + 1) = g4 (rB (σ.2 1)) k := by
                                have hz : outl (g4 (rB (σ.2 1)) k) = none := (oI_m1 (fun j hj => by have := outl_lt hj; omega)).mp c161
                                rw [g4, g4s, if_neg hc, hz]
                              refine a_goto cx (tgt := 219) dX3_goesRound_164 (by decide) ?_
                              refine a_iincN cx dX3_goesRound_219 rfl (Nat.le_of_ble_eq_true rfl) rfl ?_
                              refine a_goto cx (tgt := 138) dX3_goesRound_222 (by decide) ?_
                              exact (ih4 (k + 1) h (by omega) (by omega) (hm.eq (by rw [r]; try rfl))).loc (by exact ⟨rfl, rfl, rfl, trivial⟩)
                          · have hc : 0 < cnt (g4 (rB (σ.2 1)) k) (nI k) (nS (g4 (rB (σ.2 1)) k)) := Nat.pos_of_ne_zero (fun q => c148 (by rw [q]; exact Int32.le_refl _))
                            have r : g4 (rB (σ.2 1)) (k + 1) = g4 (rB (σ.2 1)) k := by rw [g4, g4s, if_pos hc]
                            refine a_goto cx (tgt := 219) dX3_goesRound_151 (by decide) ?_
                            refine a_iincN cx dX3_goesRound_219 rfl (Nat.le_of_ble_eq_true rfl) rfl ?_
                            refine a_goto cx (tgt := 138) dX3_goesRound_222 (by decide) ?_
                            exact (ih4 (k + 1) h (by omega) (by omega) (hm.eq (by rw [r]; try rfl))).loc (by exact ⟨rfl, rfl, rfl, trivial⟩)
                    exact loop4 (nH (σ.2 1) + 1) 0 h (by omega) (by omega) (hm.eq (by rfl))
                  · have d82 := nle_nI c82 (by omega) (by omega)
                    refine a_aload_n cx dX3_goesRound_85 rfl ?_
                    refine a_iload_n cx dX3_goesRound_86 rfl ?_
                    refine m_calli cx (k3_flock cx.htr (by rw [mR_1]; exact w1)) (lw_V q2137 q2139 qs42 q87 q2140) dn_X3_flock (RN.of rfl rfl rfl rfl) rfl hm rfl rfl (Nat.le_of_ble_eq_true rfl) dX3_goesRound_87 (Nat.zero_le _) (Nat.zero_le _) (fun h hm => ?_)
                    rw [mR_1]
                    refine a_if_ne cx (tgt := 96) dX3_goesRound_90 (by decide) (fun c90 => ?_) (fun c90 => ?_)
                    · have hc : cnt (g3 (rA (σ.2 1)) k) (nI k) (nS (g3 (rA (σ.2 1)) k)) ≠ 0 := fun q => c90 (by rw [q]; rfl)
                      have r : g3 (rA (σ.2 1)) (k + 1) = upd (upd (g3 (rA (σ.2 1)) k) (87 + k) (mid (g3 (rA (σ.2 1)) k) (nI k) 27)) (81 + k) (mid (g3 (rA (σ.2 1)) k) (nI k) 9) := by rw [g3, g3s, if_neg hc]
                      refine a_aload_n cx dX3_goesRound_96 rfl ?_
                      refine a_iload_n cx dX3_goesRound_97 rfl ?_
                      refine a_bipush cx (v := 9) dX3_goesRound_98 (by decide) ?_
                      refine m_calli cx (k3_middle cx.htr (by decide) (by rw [mR_1]; exact w1) (by rw [mR_1]; exact wt_ne0 w2 w1.2.1 hc)) (lw_V q2209 q2211 qs55 q87 q2212) dn_X3_middle (RN.of rfl rfl rfl rfl) rfl hm rfl rfl (Nat.le_of_ble_eq_true rfl) dX3_goesRound_100 (Nat.zero_le _) (Nat.zero_le _) (fun h hm => ?_)
                      refine a_istore_n cx dX3_goesRound_103 (Nat.le_of_ble_eq_true rfl) rfl ?_
                      refine a_aload_n cx dX3_goesRound_104 rfl ?_
                      refine a_get cx fl_X3_7.g dX3_goesRound_105 hm.o rfl ?_
                      refine a_bipush cx (v := 87) dX3_goesRound_108 (by decide) ?_
                      refine a_iload_n cx dX3_goesRound_110 rfl ?_
                      refine a_iadd cx dX3_goesRound_111 ?_
                      refine a_aload_n cx dX3_goesRound_112 rfl ?_
                      refine a_iload_n cx dX3_goesRound_113 rfl ?_
                      refine a_bipush cx (v := 27) dX3_goesRound_114 (by decide) ?_
                      refine m_calli cx (k3_middle cx.htr (by decide) (by rw [mR_1]; exact w1) (by rw [mR_1]; exact wt_ne0 w2 w1.2.1 hc)) (lw_V q2209 q2211 qs55 q87 q2212) dn_X3_middle (RN.of rfl rfl rfl rfl) rfl hm rfl rfl (Nat.le_of_ble_eq_true rfl) dX3_goesRound_116 (Nat.zero_le _) (Nat.zero_le _) (fun h hm => ?_)
                      refine m_iast cx (i := 0) (by decide) dX3_goesRound_119 hm (ix5 _) (show _ < 93 from by omega) (fun h hm => ?_)
                      replace hm := hm.eq (mR_m σ _ _ _)
                      refine a_aload_n cx dX3_goesRound_120 rfl ?_
                      refine a_get cx fl_X3_7.g dX3_goesRound_121 hm.o rfl ?_
                      refine a_bipush cx (v := 81) dX3_goesRound_124 (by decide) ?_
                      refine a_iload_n cx dX3_goesRound_126 rfl ?_
                      refine a_iadd cx dX3_goesRound_127 ?_
                      refine a_iload_n cx dX3_goesRound_128 rfl ?_
                      refine m_iast cx (i := 0) (by decide) dX3_goesRound_129 hm (ix4 _) (show _ < 93 from by omega) (fun h hm => ?_)
                      replace hm := hm.eq (mR_m σ _ _ _)
                      refine a_iincN cx dX3_goesRound_130 rfl (Nat.le_of_ble_eq_true rfl) rfl ?_
                      refine a_goto cx (tgt := 80) dX3_goesRound_133 (by decide) ?_
                      exact (ih3 (k + 1) h (by omega) (by omega) (hm.eq (by rw [r]; try rfl))).loc (by exact ⟨rfl, rfl, rfl, trivial⟩)
                    · have r : g3 (rA (σ.2 1)) (k + 1) = g3 (rA (σ.2 1)) k := by
                        rw [g3, g3s, if_pos]
                        have := cnt_le (g3 (rA (σ.2 1)) k) (nI k) (nS (g3 (rA (σ.2 1)) k))
                        have hle := w1.2.1
                        exact nI_inj (by omega) (by decide) c90
                      refine a_goto cx (tgt := 130) dX3_goesRound_93 (by decide) ?_
                      refine a_iincN cx dX3_goesRound_130 rfl (Nat.le_of_ble_eq_true rfl) rfl ?_
                      refine a_goto cx (tgt := 80) dX3_goesRound_133 (by decide) ?_
                      exact (ih3 (k + 1) h (by omega) (by omega) (hm.eq (by rw [r]; try rfl))).loc (by exact ⟨rfl, rfl, rfl, trivial⟩)
              exact loop3 (nH (σ.2 1) + 1) 0 h (by omega) (by omega) (hm.eq (by rfl))
            · have d59 := nle_nI c59 (by omega) (by omega)
              refine a_aload_n cx dX3_goesRound_62 rfl ?_
              refine a_iload_n cx dX3_goesRound_63 rfl ?_
              refine a_aload_n cx dX3_goesRound_64 rfl ?_
              refine a_iload_n cx dX3_goesRound_65 rfl ?_
              refine m_calli cx (k3_nearestOf cx.htr (by omega) (by rw [mR_1]; exact hw9)) (lw_V q2165 q2167 qs46 q87 q2168) dn_X3_nearestOf (RN.of rfl rfl rfl rfl) rfl hm rfl rfl (Nat.le_of_ble_eq_true rfl) dX3_goesRound_66 (Nat.zero_le _) (Nat.zero_le _) (fun h hm => ?_)
              refine m_callv cx (k3_belongs cx.htr (by omega)) (lw_V q2205 q2207 qs54 q87 q2208) dn_X3_belongs (RN.of rfl rfl rfl rfl) rfl hm rfl rfl (Nat.le_of_ble_eq_true rfl) dX3_goesRound_69 (Nat.zero_le _) (Nat.zero_le _) (fun h hm => ?_)
              replace hm := hm.eq ((mR_m σ _ _ _).trans (by rw [mR_1]) : _ = mR σ (nH (σ.2 1)) (bel (g2 (σ.2 1) k) k (oI (nearO (g2 (σ.2 1) k) k))))
              refine a_iincN cx dX3_goesRound_72 rfl (Nat.le_of_ble_eq_true rfl) rfl ?_
              refine a_goto cx (tgt := 52) dX3_goesRound_75 (by decide) ?_
              exact ih2 (k + 1) h (by omega) (by omega) hm
        exact loop2 (nS (σ.2 1) + 1) 0 h (by omega) (by omega) (hm.eq (by rfl))
      · have d11 := nle_nI c11 (by omega) (by omega)
        refine a_aload_n cx dX3_goesRound_14 rfl ?_
        refine a_get cx fl_X3_37.g dX3_goesRound_15 hm.o rfl ?_
        refine a_iload_n cx dX3_goesRound_18 rfl ?_
        refine a_aload_n cx dX3_goesRound_19 rfl ?_
        refine a_get cx fl_X3_7.g dX3_goesRound_20 hm.o rfl ?_
        refine a_bipush cx (v := 81) dX3_goesRound_23 (by decide) ?_
        refine a_iload_n cx dX3_goesRound_25 rfl ?_
        refine a_iadd cx dX3_goesRound_26 ?_
        refine a_iald cx dX3_goesRound_27 hm.a1 (ix4 _) (by omega) (by decide) ?_
        refine m_iast cx (i := 9) (by decide) dX3_goesRound_28 hm rfl (show _ < 6 from by omega) (fun h hm => ?_)
        refine a_aload_n cx dX3_goesRound_29 rfl ?_
        refine a_get cx fl_X3_40.g dX3_goesRound_30 hm.o rfl ?_
        refine a_iload_n cx dX3_goesRound_33 rfl ?_
        refine a_aload_n cx dX3_goesRound_34 rfl ?_
        refine a_get cx fl_X3_7.g dX3_goesRound_35 hm.o rfl ?_
        refine a_bipush cx (v := 87) dX3_goesRound_38 (by decide) ?_
        refine a_iload_n cx dX3_goesRound_40 rfl ?_
        refine a_iadd cx dX3_goesRound_41 ?_
        refine a_iald cx dX3_goesRound_42 hm.a1 (ix5 _) (by omega) (by decide) ?_
        refine m_iast cx (i := 10) (by decide) dX3_goesRound_43 hm rfl (show _ < 6 from by omega) (fun h hm => ?_)
        have e44 : ma (ma (ma (ma σ 10 (cpf (σ.2 10) (fun j => (σ.2 1) (81 + j)) k)) 11 (cpf (σ.2 11) (fun j => (σ.2 1) (87 + j)) k)) 10 (upd (cpf (σ.2 10) (fun j => (σ.2 1) (81 + j)) k) k ((σ.2 1) (81 + k)))) 11 (upd (cpf (σ.2 11) (fun j => (σ.2 1) (87 + j)) k) k ((σ.2 1) (87 + k))) = ma (ma σ 10 (cpf (σ.2 10) (fun j => (σ.2 1) (81 + j)) (k + 1))) 11 (cpf (σ.2 11) (fun j => (σ.2 1) (87 + j)) (k + 1)) := by
          rw [cpf_s _ (fun j => (σ.2 1) (81 + j)) k, cpf_s _ (fun j => (σ.2 1) (87 + j)) k, ma_sw (by decide), ma_ma, ma_sw (by decide), ma_ma, ma_sw (by decide)]
        refine a_iincN cx dX3_goesRound_44 rfl (Nat.le_of_ble_eq_true rfl) rfl ?_
        refine a_goto cx (tgt := 9) dX3_goesRound_47 (by decide) ?_
        exact ih (k + 1) h (by omega) (by omega) (hm.eq e44)
  exact loop (nH (σ.2 1) + 1) 0 h (by omega) (by omega) (hm.eq (by rw [cpf_0, cpf_0]; exact ((ma_self (ma σ 10 (σ.2 10)) 11).trans (ma_self σ 10)).symm))
