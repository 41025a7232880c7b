/-! THE MODEL: strikes -/
set_option maxRecDepth 100000
abbrev rm_X3_strikes : Room := { frames := 2, cells := 0, slots := 0, locals := 43 }
set_option maxHeartbeats 4000000 in
theorem k3_strikes {l : Launch} {g : GP} {ad : Nat → Nat} {σ : MS} (htr : l.stackTraces = false) {u : Int32} (hw : WS (σ.2 1)) : MK l g ad yX3_strikes cX3_strikes 5 (some .int) rm_X3_strikes σ [.int u] (fun v σ' => v = some (.int (strikesA (σ.2 1) u).1) ∧ AR σ σ' (strikesA (σ.2 1) u)) := by
  refine MK.of (by decide +kernel) htr (Nat.le_of_ble_eq_true rfl) (L0 := [some (.ref (ad 0)), some (.int u), none, none, none]) rfl ?_
  intro M h0 h cx _ hq hm
  obtain ⟨hw1, hw2, hw3, hw4⟩ := id hw
  refine a_aload_n cx dX3_strikes_0 rfl ?_
  refine a_iload_n cx dX3_strikes_1 rfl ?_
  refine m_calli cx (k3_isHut cx.htr hw) (lw_V q2133 q2135 qs41 q87 q2136) dn_X3_isHut (RN.of rfl rfl rfl rfl) rfl hm rfl rfl (Nat.le_of_ble_eq_true rfl) dX3_strikes_2 (Nat.zero_le _) (Nat.zero_le _) (fun h hm => ?_)
  refine a_if_ne cx (tgt := 10) dX3_strikes_5 (by decide) (fun c5 => ?_) (fun c5 => ?_)
  · have p0 := bI_n0 c5
    obtain ⟨i, hi, rfl⟩ := (isIx_iff (by omega)).mp p0
    have eA : strikesA (σ.2 1) (nI i) = (0, nI (cnt (σ.2 1) (nI i) (nS (σ.2 1))), strikesS (σ.2 1) i) := by rw [strikesA, if_pos p0, oN_nI (by omega)]
    refine a_aload_n cx dX3_strikes_10 rfl ?_
    refine a_iload_n cx dX3_strikes_11 rfl ?_
    refine m_calli cx (k3_flock cx.htr hw) (lw_V q2137 q2139 qs42 q87 q2140) dn_X3_flock (RN.of rfl rfl rfl rfl) rfl hm rfl rfl (Nat.le_of_ble_eq_true rfl) dX3_strikes_12 (Nat.zero_le _) (Nat.zero_le _) (fun h hm => ?_)
    refine a_istore_n cx dX3_strikes_15 (Nat.le_of_ble_eq_true rfl) rfl ?_
    have E171 : ∀ (t : SF) (h : AH), t = strL2 (strL1 (σ.2 1) (nI i) (nS (σ.2 1))) (nI i) 3 → MSt g ad h0 (ma σ 1 t) h → AW g M 0 0 171 [some (.ref (ad 0)), some (.int (nI i)), some (.int (nI (cnt (σ.2 1) (nI i) (nS (σ.2 1))))), none, none] [] h := by
      intro t h ht hm
      have ht1 : t 1 = nI (nH (σ.2 1)) := by rw [ht, strL2_n _ (Or.inl (by decide)), strL1_n _ (Or.inl (by decide))]; exact hw3
      have eS : strikesS (σ.2 1) i = upd (upd (upd (strL3 t i (nH (σ.2 1) - 1 - i)) (81 + (nH (σ.2 1) - 1)) 0) (87 + (nH (σ.2 1) - 1)) 0) 1 (nI (nH (σ.2 1) - 1)) := by rw [ht]; rfl
      rw [eS] at eA
      clear ht eS
      refine a_aload_n cx dX3_strikes_171 rfl ?_
      refine a_get cx fl_X3_7.g dX3_strikes_172 hm.o rfl ?_
      refine a_iconst cx (v := 1) dX3_strikes_175 (by decide) ?_
      refine a_iald cx dX3_strikes_176 hm.a1 (show (1 : Int32) = nI 1 from rfl) (by omega) (by decide) ?_
      refine AW.topi ht1 ?_
      refine a_iconst cx (v := 1) dX3_strikes_177 (by decide) ?_
      refine a_isub cx dX3_strikes_178 ?_
      refine AW.topi (nI_p (by omega) (by omega)) ?_
      refine a_istore_n cx dX3_strikes_179 (Nat.le_of_ble_eq_true rfl) rfl ?_
      refine a_iload_n cx dX3_strikes_180 rfl ?_
      refine a_istore cx dX3_strikes_181 (Nat.le_of_ble_eq_true rfl) rfl ?_
      have loop183 : ∀ (j c : Nat) (h : AH), i + c ≤ nH (σ.2 1) - 1 → nH (σ.2 1) - 1 < i + c + j → MSt g ad h0 (ma σ 1 (strL3 (t) i c)) h → AW g M 0 0 183 [some (.ref (ad 0)), some (.int (nI i)), some (.int (nI (cnt (σ.2 1) (nI i) (nS (σ.2 1))))), some (.int (nI (nH (σ.2 1) - 1))), some (.int (nI (i + c)))] [] h := by
        intro j
        induction j with
        | zero => intro c h h1 h2; omega
        | succ j ih =>
          intro c h h1 h2 hm
          refine a_iload cx dX3_strikes_183 rfl ?_
          refine a_iload_n cx dX3_strikes_185 rfl ?_
          refine a_icmp_ge cx (tgt := 239) dX3_strikes_186 (by decide) (fun c186 => ?_) (fun c186 => ?_)
          · have d186 := le_nI c186 (by omega) (by omega)
            obtain rfl : c = nH (σ.2 1) - 1 - i := by omega
            refine a_aload_n cx dX3_strikes_239 rfl ?_
            refine a_get cx fl_X3_7.g dX3_strikes_240 hm.o rfl ?_
            refine a_bipush cx (v := 81) dX3_strikes_243 (by decide) ?_
            refine a_iload_n cx dX3_strikes_245 rfl ?_
            refine a_iadd cx dX3_strikes_246 ?_
            refine a_iconst cx (v := 0) dX3_strikes_247 (by decide) ?_
            refine m_iast cx (i := 0) (by decide) dX3_strikes_248 hm (ix4 _) (show _ < 93 from by omega) (fun h hm => ?_)
            refine a_aload_n cx dX3_strikes_249 rfl ?_
            refine a_get cx fl_X3_7.g dX3_strikes_250 hm.o rfl ?_
            refine a_bipush cx (v := 87) dX3_strikes_253 (by decide) ?_
            refine a_iload_n cx dX3_strikes_255 rfl ?_
            refine a_iadd cx dX3_strikes_256 ?_
            refine a_iconst cx (v := 0) dX3_strikes_257 (by decide) ?_
            refine m_iast cx (i := 0) (by decide) dX3_strikes_258 hm (ix5 _) (show _ < 93 from by omega) (fun h hm => ?_)
            refine a_aload_n cx dX3_strikes_259 rfl ?_
            refine a_get cx fl_X3_7.g dX3_strikes_260 hm.o rfl ?_
            refine a_iconst cx (v := 1) dX3_strikes_263 (by decide) ?_
            refine a_iload_n cx dX3_strikes_264 rfl ?_
            refine m_iast cx (i := 0) (by decide) dX3_strikes_265 hm (show (1 : Int32) = nI 1 from rfl) (show _ < 93 from by omega) (fun h hm => ?_)
            try simp only [ma_at, ma_ma] at hm
            refine a_aload_n cx dX3_strikes_266 rfl ?_
            refine a_iload_n cx dX3_strikes_267 rfl ?_
            refine m_calli cx (k3_done cx.htr) (lw_V q2085 q2087 qs32 q87 q2088) dn_X3_done (RN.of rfl rfl rfl rfl) rfl hm rfl rfl (Nat.le_of_ble_eq_true rfl) dX3_strikes_268 (Nat.zero_le _) (Nat.zero_le _) (fun h hm => ?_)
            exact a_iret cx hq dX3_strikes_271 ⟨_, ⟨by rw [eA], AR.done ((SX.rf σ).s) eA⟩, hm⟩ (Nat.zero_le _) (Nat.zero_le _)
          · have d186 := nle_nI c186 (by omega) (by omega)
            refine a_aload_n cx dX3_strikes_189 rfl ?_
            refine a_get cx fl_X3_7.g dX3_strikes_190 hm.o rfl ?_
            refine a_bipush cx (v := 81) dX3_strikes_193 (by decide) ?_
            refine a_iload cx dX3_strikes_195 rfl ?_
            refine a_iadd cx dX3_strikes_197 ?_
            refine a_aload_n cx dX3_strikes_198 rfl ?_
            refine a_get cx fl_X3_7.g dX3_strikes_199 hm.o rfl ?_
            refine a_bipush cx (v := 81) dX3_strikes_202 (by decide) ?_
            refine a_iload cx dX3_strikes_204 rfl ?_
            refine a_iadd cx dX3_strikes_206 ?_
            refine a_iconst cx (v := 1) dX3_strikes_207 (by decide) ?_
            refine a_iadd cx dX3_strikes_208 ?_
            refine AW.topi (show (81 : Int32) + nI (i + c) + 1 = nI (81 + (i + c) + 1) from by rw [show (81 : Int32) + nI (i + c) = nI (81 + (i + c)) from nI_add 81 (i + c)]; exact nI_1 _) ?_
            refine a_iald cx dX3_strikes_209 hm.a1 rfl (by omega) (by decide) ?_
            refine m_iast cx (i := 0) (by decide) dX3_strikes_210 hm (ix4 _) (show _ < 93 from by omega) (fun h hm => ?_)
            refine a_aload_n cx dX3_strikes_211 rfl ?_
            refine a_get cx fl_X3_7.g dX3_strikes_212 hm.o rfl ?_
            refine a_bipush cx (v := 87) dX3_strikes_215 (by decide) ?_
            refine a_iload cx dX3_strikes_217 rfl ?_
            refine a_iadd cx dX3_strikes_219 ?_
            refine a_aload_n cx dX3_strikes_220 rfl ?_
            refine a_get cx fl_X3_7.g dX3_strikes_221 hm.o rfl ?_
            refine a_bipush cx (v := 87) dX3_strikes_224 (by decide) ?_
            refine a_iload cx dX3_strikes_226 rfl ?_
            refine a_iadd cx dX3_strikes_228 ?_
            refine a_iconst cx (v := 1) dX3_strikes_229 (by decide) ?_
            refine a_iadd cx dX3_strikes_230 ?_
            refine AW.topi (show (87 : Int32) + nI (i + c) + 1 = nI (87 + (i + c) + 1) from by rw [show (87 : Int32) + nI (i + c) = nI (87 + (i + c)) from nI_add 87 (i + c)]; exact nI_1 _) ?_
            refine a_iald cx dX3_strikes_231 hm.a1 rfl (by omega) (by decide) ?_
            refine m_iast cx (i := 0) (by decide) dX3_strikes_232 hm (ix5 _) (show _ < 93 from by omega) (fun h hm => ?_)
            refine a_iincN cx dX3_strikes_233 rfl (Nat.le_of_ble_eq_true rfl) rfl ?_
            refine a_goto cx (tgt := 183) dX3_strikes_236 (by decide) ?_
            exact ih (c + 1) h (by omega) (by omega) (hm.eq (by simp only [ma_at, ma_ma]; rfl))
      exact loop183 (nH (σ.2 1)) 0 h (by omega) (by omega) (hm.eq (by rfl))
    have E96 : ∀ h : AH, MSt g ad h0 (ma σ 1 (strL1 (σ.2 1) (nI i) (nS (σ.2 1)))) h → AW g M 0 0 96 [some (.ref (ad 0)), some (.int (nI i)), some (.int (nI (cnt (σ.2 1) (nI i) (nS (σ.2 1))))), none, none] [] h := by
      intro h hm
      refine a_iconst cx (v := 0) dX3_strikes_96 (by decide) ?_
      refine a_istore_n cx dX3_strikes_97 (Nat.le_of_ble_eq_true rfl) rfl ?_
      have loop98 : ∀ (j k : Nat) (h : AH), k ≤ 3 → 3 < k + j → MSt g ad h0 (ma σ 1 (strL2 (strL1 (σ.2 1) (nI i) (nS (σ.2 1))) (nI i) k)) h → AW g M 0 0 98 [some (.ref (ad 0)), some (.int (nI i)), some (.int (nI (cnt (σ.2 1) (nI i) (nS (σ.2 1))))), some (.int (nI k)), none] [] h := by
        intro j
        induction j with
        | zero => intro k h h1 h2; omega
        | succ j ih =>
          intro k h h1 h2 hm
          refine a_iload_n cx dX3_strikes_98 rfl ?_
          refine a_iconst cx (v := 3) dX3_strikes_99 (by decide) ?_
          refine a_icmp_ge cx (tgt := 171) dX3_strikes_100 (by decide) (fun c100 => ?_) (fun c100 => ?_)
          · have d100 := le_nI (a := 3) c100 (by omega) (by omega)
            have e100 : k = 3 := by omega
            subst e100
            exact (E171 _ h rfl hm).loc (by exact ⟨rfl, rfl, rfl, trivial⟩)
          · have d100 := nle_nI (a := 3) c100 (by omega) (by omega)
            have K164 : ∀ (z : Int32), z = wo ((strL2 (strL1 (σ.2 1) (nI i) (nS (σ.2 1))) (nI i) k) (6 + k)) (nI i) → AW g M 0 0 164 [some (.ref (ad 0)), some (.int (nI i)), some (.int (nI (cnt (σ.2 1) (nI i) (nS (σ.2 1))))), some (.int (nI k)), none] [.int z, .int (6 + nI k), .ref (ad 1)] h := by
              intro z ez
              subst ez
              refine m_iast cx (i := 0) (by decide) dX3_strikes_164 hm (ix6 _) (show _ < 93 from by omega) (fun h hm => ?_)
              refine a_iincN cx dX3_strikes_165 rfl (Nat.le_of_ble_eq_true rfl) rfl ?_
              refine a_goto cx (tgt := 98) dX3_strikes_168 (by decide) ?_
              exact ih (k + 1) h (by omega) (by omega) (hm.eq (by simp only [ma_at, ma_ma]; rfl))
            refine a_aload_n cx dX3_strikes_103 rfl ?_
            refine a_get cx fl_X3_7.g dX3_strikes_104 hm.o rfl ?_
            refine a_bipush cx (v := 6) dX3_strikes_107 (by decide) ?_
            refine a_iload_n cx dX3_strikes_109 rfl ?_
            refine a_iadd cx dX3_strikes_110 ?_
            refine a_aload_n cx dX3_strikes_111 rfl ?_
            refine a_get cx fl_X3_7.g dX3_strikes_112 hm.o rfl ?_
            refine a_bipush cx (v := 6) dX3_strikes_115 (by decide) ?_
            refine a_iload_n cx dX3_strikes_117 rfl ?_
            refine a_iadd cx dX3_strikes_118 ?_
            refine a_iald cx dX3_strikes_119 hm.a1 (ix6 _) (by omega) (by decide) ?_
            refine a_iload_n cx dX3_strikes_120 rfl ?_
            refine a_icmp_ne cx (tgt := 128) dX3_strikes_121 (by decide) (fun c121 => ?_) (fun c121 => ?_)
            · refine a_aload_n cx dX3_strikes_128 rfl ?_
              refine a_get cx fl_X3_7.g dX3_strikes_129 hm.o rfl ?_
              refine a_bipush cx (v := 6) dX3_strikes_132 (by decide) ?_
              refine a_iload_n cx dX3_strikes_134 rfl ?_
              refine a_iadd cx dX3_strikes_135 ?_
              refine a_iald cx dX3_strikes_136 hm.a1 (ix6 _) (by omega) (by decide) ?_
              refine a_iload_n cx dX3_strikes_137 rfl ?_
              refine a_icmp_le cx (tgt := 155) dX3_strikes_138 (by decide) (fun c138 => ?_) (fun c138 => ?_)
              · have rz : (strL2 (strL1 (σ.2 1) (nI i) (nS (σ.2 1))) (nI i) k) (6 + k) = wo ((strL2 (strL1 (σ.2 1) (nI i) (nS (σ.2 1))) (nI i) k) (6 + k)) (nI i) := by unfold wo; rw [if_neg (by exact c121), if_neg (by exact Int32.not_lt.mpr c138)]
                refine a_aload_n cx dX3_strikes_155 rfl ?_
                refine a_get cx fl_X3_7.g dX3_strikes_156 hm.o rfl ?_
                refine a_bipush cx (v := 6) dX3_strikes_159 (by decide) ?_
                refine a_iload_n cx dX3_strikes_161 rfl ?_
                refine a_iadd cx dX3_strikes_162 ?_
                refine a_iald cx dX3_strikes_163 hm.a1 (ix6 _) (by omega) (by decide) ?_
                exact K164 _ rz
              · have rz : (strL2 (strL1 (σ.2 1) (nI i) (nS (σ.2 1))) (nI i) k) (6 + k) - 1 = wo ((strL2 (strL1 (σ.2 1) (nI i) (nS (σ.2 1))) (nI i) k) (6 + k)) (nI i) := by unfold wo; rw [if_neg (by exact c121), if_pos (by exact Int32.not_le.mp c138)]
                refine a_aload_n cx dX3_strikes_141 rfl ?_
                refine a_get cx fl_X3_7.g dX3_strikes_142 hm.o rfl ?_
                refine a_bipush cx (v := 6) dX3_strikes_145 (by decide) ?_
                refine a_iload_n cx dX3_strikes_147 rfl ?_
                refine a_iadd cx dX3_strikes_148 ?_
                refine a_iald cx dX3_strikes_149 hm.a1 (ix6 _) (by omega) (by decide) ?_
                refine a_iconst cx (v := 1) dX3_strikes_150 (by decide) ?_
                refine a_isub cx dX3_strikes_151 ?_
                refine a_goto cx (tgt := 164) dX3_strikes_152 (by decide) ?_
                exact K164 _ rz
            · have rz : (-1 : Int32) = wo ((strL2 (strL1 (σ.2 1) (nI i) (nS (σ.2 1))) (nI i) k) (6 + k)) (nI i) := by unfold wo; rw [if_pos (by exact c121)]
              refine a_iconst cx (v := -1) dX3_strikes_124 (by decide) ?_
              refine a_goto cx (tgt := 164) dX3_strikes_125 (by decide) ?_
              exact K164 _ rz
      exact loop98 (3 + 1) 0 h (by omega) (by omega) (hm.eq (by rfl))
    refine a_iconst cx (v := 0) dX3_strikes_16 (by decide) ?_
    refine a_istore_n cx dX3_strikes_17 (Nat.le_of_ble_eq_true rfl) rfl ?_
    have loop18 : ∀ (j k : Nat) (h : AH), k ≤ nS (σ.2 1) → nS (σ.2 1) < k + j → MSt g ad h0 (ma σ 1 (strL1 (σ.2 1) (nI i) k)) h → AW g M 0 0 18 [some (.ref (ad 0)), some (.int (nI i)), some (.int (nI (cnt (σ.2 1) (nI i) (nS (σ.2 1))))), some (.int (nI k)), none] [] h := by
      intro j
      induction j with
      | zero => intro k h h1 h2; omega
      | succ j ih =>
        intro k h h1 h2 hm
        refine a_iload_n cx dX3_strikes_18 rfl ?_
        refine a_aload_n cx dX3_strikes_19 rfl ?_
        refine a_get cx fl_X3_7.g dX3_strikes_20 hm.o rfl ?_
        refine a_iconst cx (v := 0) dX3_strikes_23 (by decide) ?_
        refine a_iald cx dX3_strikes_24 hm.a1 (show (0 : Int32) = nI 0 from rfl) (by omega) (by decide) ?_
        refine AW.topi ((strL1_n _ (Or.inl (by decide))).trans hw1) ?_
        refine a_icmp_ge cx (tgt := 96) dX3_strikes_25 (by decide) (fun c25 => ?_) (fun c25 => ?_)
        · have d25 := le_nI c25 (by omega) (by omega)
          have e25 : k = nS (σ.2 1) := by omega
          subst e25
          exact (E96 h hm).loc (by exact ⟨rfl, rfl, rfl, trivial⟩)
        · have d25 := nle_nI c25 (by omega) (by omega)
          have K89 : ∀ (z : Int32), z = wo ((strL1 (σ.2 1) (nI i) k) (63 + k)) (nI i) → AW g M 0 0 89 [some (.ref (ad 0)), some (.int (nI i)), some (.int (nI (cnt (σ.2 1) (nI i) (nS (σ.2 1))))), some (.int (nI k)), none] [.int z, .int (63 + nI k), .ref (ad 1)] h := by
            intro z ez
            subst ez
            refine m_iast cx (i := 0) (by decide) dX3_strikes_89 hm (ix3 _) (show _ < 93 from by omega) (fun h hm => ?_)
            refine a_iincN cx dX3_strikes_90 rfl (Nat.le_of_ble_eq_true rfl) rfl ?_
            refine a_goto cx (tgt := 18) dX3_strikes_93 (by decide) ?_
            exact ih (k + 1) h (by omega) (by omega) (hm.eq (by simp only [ma_at, ma_ma]; rfl))
          refine a_aload_n cx dX3_strikes_28 rfl ?_
          refine a_get cx fl_X3_7.g dX3_strikes_29 hm.o rfl ?_
          refine a_bipush cx (v := 63) dX3_strikes_32 (by decide) ?_
          refine a_iload_n cx dX3_strikes_34 rfl ?_
          refine a_iadd cx dX3_strikes_35 ?_
          refine a_aload_n cx dX3_strikes_36 rfl ?_
          refine a_get cx fl_X3_7.g dX3_strikes_37 hm.o rfl ?_
          refine a_bipush cx (v := 63) dX3_strikes_40 (by decide) ?_
          refine a_iload_n cx dX3_strikes_42 rfl ?_
          refine a_iadd cx dX3_strikes_43 ?_
          refine a_iald cx dX3_strikes_44 hm.a1 (ix3 _) (by omega) (by decide) ?_
          refine a_iload_n cx dX3_strikes_45 rfl ?_
          refine a_icmp_ne cx (tgt := 53) dX3_strikes_46 (by decide) (fun c46 => ?_) (fun c46 => ?_)
          · refine a_aload_n cx dX3_strikes_53 rfl ?_
            refine a_get cx fl_X3_7.g dX3_strikes_54 hm.o rfl ?_
            refine a_bipush cx (v := 63) dX3_strikes_57 (by decide) ?_
            refine a_iload_n cx dX3_strikes_59 rfl ?_
            refine a_iadd cx dX3_strikes_60 ?_
            refine a_iald cx dX3_strikes_61 hm.a1 (ix3 _) (by omega) (by decide) ?_
            refine a_iload_n cx dX3_strikes_62 rfl ?_
            refine a_icmp_le cx (tgt := 80) dX3_strikes_63 (by decide) (fun c63 => ?_) (fun c63 => ?_)
            · have rz : (strL1 (σ.2 1) (nI i) k) (63 + k) = wo ((strL1 (σ.2 1) (nI i) k) (63 + k)) (nI i) := by unfold wo; rw [if_neg (by exact c46), if_neg (by exact Int32.not_lt.mpr c63)]
              refine a_aload_n cx dX3_strikes_80 rfl ?_
              refine a_get cx fl_X3_7.g dX3_strikes_81 hm.o rfl ?_
              refine a_bipush cx (v := 63) dX3_strikes_84 (by decide) ?_
              refine a_iload_n cx dX3_strikes_86 rfl ?_
              refine a_iadd cx dX3_strikes_87 ?_
              refine a_iald cx dX3_strikes_88 hm.a1 (ix3 _) (by omega) (by decide) ?_
              exact K89 _ rz
            · have rz : (strL1 (σ.2 1) (nI i) k) (63 + k) - 1 = wo ((strL1 (σ.2 1) (nI i) k) (63 + k)) (nI i) := by unfold wo; rw [if_neg (by exact c46), if_pos (by exact Int32.not_le.mp c63)]
              refine a_aload_n cx dX3_strikes_66 rfl ?_
              refine a_get cx fl_X3_7.g dX3_strikes_67 hm.o rfl ?_
              refine a_bipush cx (v := 63) dX3_strikes_70 (by decide) ?_
              refine a_iload_n cx dX3_strikes_72 rfl ?_
              refine a_iadd cx dX3_strikes_73 ?_
              refine a_iald cx dX3_strikes_74 hm.a1 (ix3 _) (by omega) (by decide) ?_
              refine a_iconst cx (v := 1) dX3_strikes_75 (by decide) ?_
              refine a_isub cx dX3_strikes_76 ?_
              refine a_goto cx (tgt := 89) dX3_strikes_77 (by decide) ?_
              exact K89 _ rz
          · have rz : (-1 : Int32) = wo ((strL1 (σ.2 1) (nI i) k) (63 + k)) (nI i) := by unfold wo; rw [if_pos (by exact c46)]
            refine a_iconst cx (v := -1) dX3_strikes_49 (by decide) ?_
            refine a_goto cx (tgt := 89) dX3_strikes_50 (by decide) ?_
            exact K89 _ rz
    exact loop18 (nS (σ.2 1) + 1) 0 h (by omega) (by omega) (hm.eq (by exact (ma_self _ _).symm))
  · have eA : strikesA (σ.2 1) u = (-1, 0, σ.2 1) := if_neg (fun q => by have h9 := (bI_0 _).mp c5; rw [q] at h9; cases h9)
    refine a_iconst cx (v := -1) dX3_strikes_8 (by decide) ?_
    exact a_iret cx hq dX3_strikes_9 ⟨_, ⟨by rw [eA], AR.thr eA (by decide)⟩, hm⟩ (Nat.zero_le _) (Nat.zero_le _)
