/-! THE MODEL: read -/
set_option maxRecDepth 100000
theorem RM.keep {S : ST} {σ τ : MS} (h : RM S σ) (h1 : ∀ k, k ≠ 11 → k ≠ 13 → k ≠ 14 → τ.1 k = σ.1 k) (h2 : ∀ i, i ≠ 8 → τ.2 i = σ.2 i) : RM S τ :=
  have q := h.mo (σ' := τ) (fun k _ _ => h1 k (by omega) (by omega) (by omega)) (h2 3 (by decide)) (h2 4 (by decide)) (h2 7 (by decide)) (h2 9 (by decide))
  (congrArg (fun s => RM (S.wRow s) τ) ((h2 1 (by decide)).trans h.row)).mp q
theorem RM_ops {S : ST} {σ τ : MS} (h : RM S σ) (h1 : ∀ k, k ≠ 9 → k ≠ 10 → τ.1 k = σ.1 k) (h2 : ∀ i, i ≠ 1 → i ∉ scr → τ.2 i = σ.2 i) : RM (S.wRow (τ.2 1)) τ :=
  h.mo (σ' := τ) (fun k _ _ => h1 k (by omega) (by omega)) (h2 3 (by decide) (by decide)) (h2 4 (by decide) (by decide)) (h2 7 (by decide) (by decide)) (h2 9 (by decide) (by decide))
theorem RM.t0 {S : ST} {σ : MS} (h : RM S σ) : RM (S.wText []) (mv σ 3 0) :=
  ⟨h.row, h.kept, h.hist, h.has, h.saved, rfl, fun i c hc => (by have hc' : ([] : List Int32)[i]? = some c := hc; cases hc'), h.outl, h.out, h.fault, h.item, h.why, h.det⟩
theorem RM.flt {S : ST} {σ : MS} (h : RM S σ) (p : Nat) : RM (S.wFault (some p)) (mv σ 5 (nI p)) :=
  ⟨h.row, h.kept, h.hist, h.has, h.saved, h.len, h.text, h.outl, h.out, rfl, h.item, h.why, h.det⟩
theorem RM.itm {S : ST} {σ : MS} (h : RM S σ) (p : Nat) : RM (S.wItem (some p)) (mv σ 6 (nI p)) :=
  ⟨h.row, h.kept, h.hist, h.has, h.saved, h.len, h.text, h.outl, h.out, h.fault, rfl, h.why, h.det⟩
def MT (τ : MS) (j : Nat) (o : Ord) : Prop := τ.2 8 (4 * j) = o.1 ∧ ∀ m, m < nArg o.1 → τ.2 8 (4 * j + 1 + m) = o.2.getD m 0
theorem nArg_le (c : Int32) : nArg c ≤ 3 := by
  unfold nArg
  split
  · omega
  split
  · omega
  split
  · omega
  split
  · omega
  split <;> omega
theorem MT.keep {τ υ : MS} {j n : Nat} {o : Ord} (h : MT τ j o) (hj : j < n) (hq : ∀ q, q < 4 * n → υ.2 8 q = τ.2 8 q) : MT υ j o := by
  have := nArg_le o.1
  exact ⟨by rw [hq _ (by omega)]; exact h.1, fun m hm => by rw [hq _ (by omega)]; exact h.2 m hm⟩
theorem MT.eq {τ υ : MS} {j : Nat} {o : Ord} (h : MT τ j o) (hq : υ.2 8 = τ.2 8) : MT υ j o := ⟨by rw [hq]; exact h.1, fun m hm => by rw [hq]; exact h.2 m hm⟩
theorem MT.doA {τ : MS} {j : Nat} {o : Ord} {s : SF} (h : MT τ j o) : doA s (τ.2 8 (4 * j)) (τ.2 8 (4 * j + 1)) (τ.2 8 (4 * j + 2)) (τ.2 8 (4 * j + 3)) = doO s o := by
  rw [h.1]
  exact doA_c (fun q => h.2 0 q) (fun q => h.2 1 q) (fun q => h.2 2 q)
/-- while the orders are read: those read before, and the last one -/
def RL (σ τ : MS) (acc : List Ord) (r : Nat × Bool × Ord) : Prop :=
  (∀ k, k ≠ 11 → k ≠ 13 → k ≠ 14 → τ.1 k = σ.1 k) ∧ τ.1 13 = nI (acc.length + 1) ∧ τ.1 11 = nI r.1 ∧ τ.1 14 = bI r.2.1 ∧ (∀ i, i ≠ 8 → τ.2 i = σ.2 i) ∧ (∀ j o, acc[j]? = some o → MT τ j o) ∧ (r.2.1 = false → MT τ acc.length r.2.2)
theorem RL.first {σ τ : MS} {r : Nat × Bool × Ord} (h : RDq σ τ 0 r) : RL σ τ [] r := by
  obtain ⟨x1, x2, x3, x4, x5, x6, x7⟩ := h
  exact ⟨x1, x2, x3, x4, x5, fun j o hj => (by cases hj), fun hw => x7 hw⟩
theorem RL.all {σ τ : MS} {acc : List Ord} {r : Nat × Bool × Ord} (h : RL σ τ acc r) (hw : r.2.1 = false) : ∀ j o, (acc ++ [r.2.2])[j]? = some o → MT τ j o := by
  obtain ⟨x1, x2, x3, x4, x5, x6, x7⟩ := h
  intro j o hj
  by_cases hl : j < acc.length
  · rw [List.getElem?_append_left hl] at hj; exact x6 j o hj
  · rw [List.getElem?_append_right (by omega)] at hj
    by_cases h0 : j - acc.length = 0
    · rw [h0] at hj
      cases hj
      rw [show j = acc.length by omega]
      exact x7 hw
    · rw [List.getElem?_eq_none (by simp; omega)] at hj; cases hj
theorem RL.next {σ τ υ : MS} {acc : List Ord} {r r2 : Nat × Bool × Ord} (h : RL σ τ acc r) (hw : r.2.1 = false) (p : Nat) (h2 : RDq (mv τ 11 (nI p)) υ (acc.length + 1) r2) : RL σ υ (acc ++ [r.2.2]) r2 := by
  have hall := h.all hw
  obtain ⟨x1, x2, x3, x4, x5, x6, x7⟩ := h
  obtain ⟨y1, y2, y3, y4, y5, y6, y7⟩ := h2
  have hlen : (acc ++ [r.2.2]).length = acc.length + 1 := by rw [List.length_append]; rfl
  refine ⟨fun k h1 h2 h3 => (y1 k h1 h2 h3).trans ((mv_ne h1).trans (x1 k h1 h2 h3)), by rw [hlen]; exact y2, y3, y4, fun i hi => (y5 i hi).trans (x5 i hi), fun j o hj => ?_, fun hw2 => by rw [hlen]; exact y7 hw2⟩
  have hjl : j < acc.length + 1 := by
    rw [← hlen]
    by_cases q : j < (acc ++ [r.2.2]).length
    · exact q
    · rw [List.getElem?_eq_none (by omega)] at hj; cases hj
  exact (hall j o hj).keep hjl y6
/-- one more round of the reader -/
theorem prs_go {T : Nat → Int32} {e m p : Nat} (hw : (ordr T e p).2.1 = false) (h59 : hr T e (ordr T e p).1 = 59) : prs T e (m + 1) p = ((prs T e m ((ordr T e p).1 + 1)).1, (prs T e m ((ordr T e p).1 + 1)).2.1, (ordr T e p).2.2 :: (prs T e m ((ordr T e p).1 + 1)).2.2) := by
  rw [prs]
  dsimp only
  rw [if_neg (by rw [hw]; decide), if_pos h59]
theorem prs_end {T : Nat → Int32} {e m p : Nat} (hw : (ordr T e p).2.1 = false) (h59 : ¬ hr T e (ordr T e p).1 = 59) : prs T e (m + 1) p = ((ordr T e p).1, false, [(ordr T e p).2.2]) := by
  rw [prs]
  dsimp only
  rw [if_neg (by rw [hw]; decide), if_neg h59]
theorem prs_bad {T : Nat → Int32} {e m p : Nat} (hw : (ordr T e p).2.1 = true) : prs T e (m + 1) p = ((ordr T e p).1, true, []) := by
  rw [prs]
  dsimp only
  rw [if_pos hw]
abbrev rm_X3_read : Room := { frames := 8, cells := 0, slots := 0, locals := 182 }
set_option maxHeartbeats 4000000 in
theorem k3_read {l : Launch} {g : GP} {ad : Nat → Nat} {σ : MS} (htr : l.stackTraces = false) {S : ST} (hR : RM S σ) (hF : WF S.row) (hl8 : S.hist.length ≤ 8) (hl60 : S.text.length ≤ 60) : MK l g ad yX3_read cX3_read 4 (some .int) rm_X3_read σ [] (fun v σ' => QP (sRead S) (qRead S) v σ') := by
  refine MK.of (by decide +kernel) htr (Nat.le_of_ble_eq_true rfl) (L0 := [some (.ref (ad 0)), none, none, none]) rfl ?_
  intro M h0 h cx _ hq hm
  have eP : prs (σ.2 7) S.text.length (S.text.length + 1) 0 = rdP S := prs_c (hr_c (fun i hi => by rw [hR.text i (S.text[i]) (List.getElem?_eq_getElem hi), List.getD_eq_getElem?_getD, List.getElem?_eq_getElem hi]; rfl)) _ _
  refine a_aload_n cx dX3_read_0 rfl ?_
  refine m_callv cx (k3_remembers cx.htr) (lw_V q2056 q2058 qs27 q87 q2059) dn_X3_remembers (RN.of rfl rfl rfl rfl) rfl hm rfl rfl (Nat.le_of_ble_eq_true rfl) dX3_read_1 (Nat.zero_le _) (Nat.zero_le _) (fun h hm => ?_)
  refine a_aload_n cx dX3_read_4 rfl ?_
  refine a_iconst cx (v := 0) dX3_read_5 (by decide) ?_
  refine m_put cx (i := 11) fl_X3_225 dX3_read_6 hm rfl rfl rfl (fun h hm => ?_)
  refine a_aload_n cx dX3_read_9 rfl ?_
  refine a_aload_n cx dX3_read_10 rfl ?_
  refine a_get cx fl_X3_222.g dX3_read_11 hm.o rfl ?_
  refine AW.topi (show _ = nI S.text.length from hR.len) ?_
  refine m_put cx (i := 12) fl_X3_228 dX3_read_14 hm rfl rfl rfl (fun h hm => ?_)
  refine a_aload_n cx dX3_read_17 rfl ?_
  refine a_iconst cx (v := 0) dX3_read_18 (by decide) ?_
  refine m_put cx (i := 3) fl_X3_222 dX3_read_19 hm rfl rfl rfl (fun h hm => ?_)
  refine a_aload_n cx dX3_read_22 rfl ?_
  refine a_iconst cx (v := 0) dX3_read_23 (by decide) ?_
  refine m_put cx (i := 13) fl_X3_249 dX3_read_24 hm rfl rfl rfl (fun h hm => ?_)
  refine a_aload_n cx dX3_read_27 rfl ?_
  refine a_iconst cx (v := 0) dX3_read_28 (by decide) ?_
  refine m_put cx (i := 14) fl_X3_235 dX3_read_29 hm rfl rfl rfl (fun h hm => ?_)
  obtain ⟨σ0, es0⟩ : ∃ σ0, σ0 = (mv (mv (mv (mv (mv (ma (mv σ 0 0) 2 (σ.2 1)) 11 0) 12 (nI S.text.length)) 3 0) 13 0) 14 0) := ⟨_, rfl⟩
  replace hm := hm.eq es0.symm
  have s1 : σ0.1 0 = 0 := by rw [es0]; rfl
  have s2 : σ0.2 2 = S.row := by rw [es0]; exact hR.row
  have s3 : σ0.2 7 = σ.2 7 := by rw [es0]; rfl
  have s4 : σ0.2 1 = S.row := by rw [es0]; exact hR.row
  have s5 : σ0.1 12 = nI S.text.length := by rw [es0]; rfl
  have sR : RM (S.wText []) σ0 := by rw [es0]; exact (((((((hR.v (k := 0) (x := 0) (Or.inl rfl)).a (i := 2) (f := σ.2 1) (by decide)).v (k := 11) (x := 0) (Or.inr (by decide))).v (k := 12) (x := nI S.text.length) (Or.inr (by decide))).t0).v (k := 13) (x := 0) (Or.inr (by decide))).v (k := 14) (x := 0) (Or.inr (by decide)))
  have s6 : σ0.1 11 = nI 0 := by rw [es0]; rfl
  have s7 : σ0.1 13 = nI 0 := by rw [es0]; rfl
  have s8 : σ0.1 14 = 0 := by rw [es0]; rfl
  clear es0
  refine a_aload_n cx dX3_read_32 rfl ?_
  refine m_call cx (k3_readsOne (σ := σ0) (p := 0) (e := S.text.length) (o := 0) cx.htr s6 s5 (by omega) hl60 (by omega) s8 s7 (by omega)) (lw_V q2365 q2367 qs70 q87 q2368) dn_X3_readsOne (RN.of rfl rfl rfl rfl) rfl hm rfl rfl (Nat.le_of_ble_eq_true rfl) dX3_read_33 (Nat.zero_le _) (Nat.zero_le _) (fun v9 τ h hp hm => ?_)
  obtain ⟨rfl, hx⟩ := hp
  rw [s3] at hx
  have E88 : ∀ (τ : MS) (h : AH), MSt g ad h0 τ h → (∀ k, k ≠ 11 → k ≠ 13 → k ≠ 14 → τ.1 k = σ0.1 k) → (∀ i, i ≠ 8 → τ.2 i = σ0.2 i) → τ.1 11 = nI (rdP S).1 → ((rdP S).2.1 = true ∨ (rdP S).1 < S.text.length) → AW g M 0 0 88 [some (.ref (ad 0)), none, none, none] [] h := by
    intro τ h hm hk1 hk2 hsp hbad
    refine a_aload_n cx dX3_read_88 rfl ?_
    refine a_aload_n cx dX3_read_89 rfl ?_
    refine a_get cx fl_X3_225.g dX3_read_90 hm.o rfl ?_
    refine AW.topi hsp ?_
    refine m_put cx (i := 5) fl_X3_43 dX3_read_93 hm rfl rfl rfl (fun h hm => ?_)
    refine a_aload_n cx dX3_read_96 rfl ?_
    refine a_iconst cx (v := 1) dX3_read_97 (by decide) ?_
    refine m_calli cx (k3_fails cx.htr) (lw_V q2097 q2099 qs35 q87 q2100) dn_X3_fails (RN.of rfl rfl rfl rfl) rfl hm rfl rfl (Nat.le_of_ble_eq_true rfl) dX3_read_98 (Nat.zero_le _) (Nat.zero_le _) (fun h hm => ?_)
    exact a_iret cx hq dX3_read_101 ⟨_, ⟨by rw [qRead, if_pos hbad], by rw [qRead, if_pos hbad, sRead, if_pos hbad]; exact ⟨mv_at _ _ _, ((sR.keep hk1 hk2).flt _).v (Or.inl rfl)⟩⟩, hm⟩ (Nat.zero_le _) (Nat.zero_le _)
  have E102 : ∀ (τ : MS) (h : AH) (os : List Ord), MSt g ad h0 τ h → (∀ k, k ≠ 11 → k ≠ 13 → k ≠ 14 → τ.1 k = σ0.1 k) → (∀ i, i ≠ 8 → τ.2 i = σ0.2 i) → τ.1 13 = nI os.length → (∀ j o, os[j]? = some o → MT τ j o) → (rdP S).2.2 = os → ¬ ((rdP S).2.1 = true ∨ (rdP S).1 < S.text.length) → os.length ≤ 31 → AW g M 0 0 102 [some (.ref (ad 0)), none, none, none] [] h := by
    intro τ h os hm hk1 hk2 ho13 hMT hos hok hl31
    refine a_iconst cx (v := 0) dX3_read_102 (by decide) ?_
    refine a_istore_n cx dX3_read_103 (Nat.le_of_ble_eq_true rfl) rfl ?_
    have loop3 : ∀ (j i : Nat) (υ : MS) (h : AH), i ≤ os.length → os.length < i + j → MSt g ad h0 υ h → (∀ k, k ≠ 9 → k ≠ 10 → υ.1 k = τ.1 k) → (∀ i, i ≠ 1 → i ∉ scr → υ.2 i = τ.2 i) → WF (υ.2 1) → run (υ.2 1) (os.drop i) i = run S.row os 0 → AW g M 0 0 104 [some (.ref (ad 0)), some (.int (nI i)), none, none] [] h := by
      intro j
      induction j with
      | zero => intro i υ h h1 h2; omega
      | succ j ih =>
        intro i υ h h1 h2 hm hu1 hu2 hW hrun
        have hu13 : υ.1 13 = nI os.length := (hu1 13 (by decide) (by decide)).trans ho13
        refine a_iload_n cx dX3_read_104 rfl ?_
        refine a_aload_n cx dX3_read_105 rfl ?_
        refine a_get cx fl_X3_249.g dX3_read_106 hm.o rfl ?_
        refine AW.topi hu13 ?_
        refine a_icmp_ge cx (tgt := 175) dX3_read_109 (by decide) (fun c109 => ?_) (fun c109 => ?_)
        · have d109 := le_nI c109 (by omega) (by omega)
          obtain rfl : i = os.length := by omega
          rw [List.drop_length, run] at hrun
          have hRu : RM ((S.wText []).wRow (υ.2 1)) υ := RM_ops (sR.keep hk1 hk2) hu1 hu2
          have hf2 : υ.2 2 = S.row := (hu2 2 (by decide) (by decide)).trans ((hk2 2 (by decide)).trans s2)
          refine a_aload_n cx dX3_read_175 rfl ?_
          refine a_aload_n cx dX3_read_176 rfl ?_
          refine a_get cx fl_X3_249.g dX3_read_177 hm.o rfl ?_
          refine AW.topi hu13 ?_
          refine m_call cx (k3_changed cx.htr hRu hl8) (lw_V q2093 q2095 qs34 q87 q2096) dn_X3_changed (RN.of rfl rfl rfl rfl) rfl hm rfl rfl (Nat.le_of_ble_eq_true rfl) dX3_read_180 (Nat.zero_le _) (Nat.zero_le _) (fun v9 ξ h hp hm => ?_)
          obtain ⟨rfl, e1, e2⟩ := hp
          rw [hf2] at e2
          exact a_iret cx hq dX3_read_183 ⟨_, ⟨by rw [qRead, if_neg hok, hos, ← hrun], by rw [qRead, if_neg hok, sRead, if_neg hok, hos, ← hrun]; exact ⟨(e1 0 (by decide)).trans ((hu1 0 (by decide) (by decide)).trans ((hk1 0 (by decide) (by decide) (by decide)).trans s1)), e2⟩⟩, hm⟩ (Nat.zero_le _) (Nat.zero_le _)
        · have d109 := nle_nI c109 (by omega) (by omega)
          obtain ⟨o, ho9⟩ : ∃ o, os[i]? = some o := ⟨os[i], List.getElem?_eq_getElem d109⟩
          have hdr : os.drop i = o :: os.drop (i + 1) := by rw [List.drop_eq_getElem_cons d109]; congr 1; exact Option.some.inj ((List.getElem?_eq_getElem d109).symm.trans ho9)
          have hMo : MT υ i o := (hMT i o ho9).eq (hu2 8 (by decide) (by decide))
          have eD := hMo.doA (s := υ.2 1)
          rw [hdr, run] at hrun
          refine a_aload_n cx dX3_read_112 rfl ?_
          refine a_iload_n cx dX3_read_113 rfl ?_
          refine m_call cx (k3_does (σ := υ) (i := i) cx.htr (by omega) hW) (lw_V q2396 q2398 qs75 q87 q2399) dn_X3_does (RN.of rfl rfl rfl rfl) rfl hm rfl rfl (Nat.le_of_ble_eq_true rfl) dX3_read_114 (Nat.zero_le _) (Nat.zero_le _) (fun v9 ζ h hp hm => ?_)
          obtain ⟨rfl, hz⟩ := hp
          rw [eD] at hz ⊢
          obtain ⟨z1, z2, z3, z4, z5⟩ := id hz
          refine a_istore_n cx dX3_read_117 (Nat.le_of_ble_eq_true rfl) rfl ?_
          refine a_iload_n cx dX3_read_118 rfl ?_
          refine a_if_ne cx (tgt := 125) dX3_read_119 (by decide) (fun c119 => ?_) (fun c119 => ?_)
          · rw [if_neg c119] at hrun
            refine a_iconst cx (v := 0) dX3_read_125 (by decide) ?_
            refine a_istore_n cx dX3_read_126 (Nat.le_of_ble_eq_true rfl) rfl ?_
            have loop4 : ∀ (j k : Nat) (h : AH), k ≤ 93 → 93 < k + j → MSt g ad h0 (ma ζ 1 (cpf (ζ.2 1) (ζ.2 2) k)) h → AW g M 0 0 127 [some (.ref (ad 0)), some (.int (nI i)), some (.int (doO (υ.2 1) o).1), some (.int (nI k))] [] h := by
              intro j
              induction j with
              | zero => intro k h h1 h2; omega
              | succ j ih4 =>
                intro k h h1 h2 hm
                refine a_iload_n cx dX3_read_127 rfl ?_
                refine a_bipush cx (v := 93) dX3_read_128 (by decide) ?_
                refine a_icmp_ge cx (tgt := 151) dX3_read_130 (by decide) (fun c130 => ?_) (fun c130 => ?_)
                · have d130 := le_nI (a := 93) c130 (by omega) (by omega)
                  have e130 : k = 93 := by omega
                  subst e130
                  have hf2 : ζ.2 2 = S.row := (z2 2 (by decide) (by decide)).trans ((hu2 2 (by decide) (by decide)).trans ((hk2 2 (by decide)).trans s2))
                  refine m_norm cx 0 (by decide) (f := S.row) hm (fun j hj => (cpf_lt hj).trans (by rw [hf2])) (fun h hm => ?_)
                  replace hm := hm.eq (ma_ma _ _ _ _)
                  have hRz : RM (S.wText []) (ma ζ 1 S.row) := by
                    have a1 := (RM_ops (sR.keep hk1 hk2) hu1 hu2)
                    have a2 := (a1.ar hz).s (f := S.row)
                    exact a2
                  refine a_aload_n cx dX3_read_151 rfl ?_
                  refine a_iload_n cx dX3_read_152 rfl ?_
                  refine m_put cx (i := 6) fl_X3_47 dX3_read_153 hm rfl rfl rfl (fun h hm => ?_)
                  refine a_aload_n cx dX3_read_156 rfl ?_
                  refine a_iload_n cx dX3_read_157 rfl ?_
                  refine a_iconst cx (v := 2) dX3_read_158 (by decide) ?_
                  refine m_call cx (k3_ends (S := (S.wText []).wItem (some i)) (f := S.row) cx.htr (hRz.itm i) hf2 hl8) (lw_V q2089 q2091 qs33 q87 q2092) dn_X3_ends (RN.of rfl rfl rfl rfl) rfl hm rfl rfl (Nat.le_of_ble_eq_true rfl) dX3_read_159 (Nat.zero_le _) (Nat.zero_le _) (fun v9 ξ h hp hm => ?_)
                  obtain ⟨rfl, e1, e2⟩ := hp
                  rw [if_neg c119] at e1 e2
                  refine a_istore_n cx dX3_read_162 (Nat.le_of_ble_eq_true rfl) rfl ?_
                  refine a_aload_n cx dX3_read_163 rfl ?_
                  refine a_iconst cx (v := 2) dX3_read_164 (by decide) ?_
                  refine m_calli cx (k3_fails cx.htr) (lw_V q2097 q2099 qs35 q87 q2100) dn_X3_fails (RN.of rfl rfl rfl rfl) rfl hm rfl rfl (Nat.le_of_ble_eq_true rfl) dX3_read_165 (Nat.zero_le _) (Nat.zero_le _) (fun h hm => ?_)
                  have eq9 : qRead S = (2, 0) := by rw [qRead, if_neg hok, hos, ← hrun]
                  have hS9 : RM (sRead S) (mv ξ 0 2) := by
                    rw [sRead, if_neg hok, hos, ← hrun]
                    dsimp only
                    by_cases hn9 : (doO (υ.2 1) o).1 < 0
                    · rw [if_pos hn9] at e2 ⊢
                      exact e2.v (Or.inl rfl)
                    · rw [if_neg hn9] at e2 ⊢
                      rw [show (mv (ma ζ 1 S.row) 6 (nI i)).1 9 = (doO (υ.2 1) o).2.1 from z5 (Int32.lt_of_le_of_ne (Int32.not_lt.mp hn9) (fun q => c119 q.symm))] at e2
                      exact e2.v (Or.inl rfl)
                  exact a_iret cx hq dX3_read_168 ⟨_, ⟨by rw [eq9], by rw [eq9]; exact ⟨mv_at _ _ _, hS9⟩⟩, hm⟩ (Nat.zero_le _) (Nat.zero_le _)
                · have d130 := nle_nI (a := 93) c130 (by omega) (by omega)
                  refine a_aload_n cx dX3_read_133 rfl ?_
                  refine a_get cx fl_X3_7.g dX3_read_134 hm.o rfl ?_
                  refine a_iload_n cx dX3_read_137 rfl ?_
                  refine a_aload_n cx dX3_read_138 rfl ?_
                  refine a_get cx fl_X3_13.g dX3_read_139 hm.o rfl ?_
                  refine a_iload_n cx dX3_read_142 rfl ?_
                  refine a_iald cx dX3_read_143 hm.a2 rfl (by omega) (by decide) ?_
                  refine m_iast cx (i := 0) (by decide) dX3_read_144 hm rfl (show _ < 93 from by omega) (fun h hm => ?_)
                  refine a_iincN cx dX3_read_145 rfl (Nat.le_of_ble_eq_true rfl) rfl ?_
                  refine a_goto cx (tgt := 127) dX3_read_148 (by decide) ?_
                  exact ih4 (k + 1) h (by omega) (by omega) (hm.eq (by rw [ma_ma]; exact congrArg _ (cpf_s _ _ k)))
            exact loop4 (93 + 1) 0 h (by omega) (by omega) (hm.eq (by rw [cpf_0, ma_self]))
          · rw [if_pos c119] at hrun
            refine a_goto cx (tgt := 169) dX3_read_122 (by decide) ?_
            refine a_iincN cx dX3_read_169 rfl (Nat.le_of_ble_eq_true rfl) rfl ?_
            refine a_goto cx (tgt := 104) dX3_read_172 (by decide) ?_
            exact (ih (i + 1) ζ h (by omega) (by omega) hm (fun k h1 h2 => (z3 k h1 h2).trans (hu1 k h1 h2)) (fun i9 h1 h2 => (z2 i9 h1 h2).trans (hu2 i9 h1 h2)) (by rw [z1]; exact doA_WF hW) (by rw [z1]; exact hrun)).loc (by exact ⟨rfl, rfl, trivial⟩)
    exact loop3 (os.length + 1) 0 τ h (by omega) (by omega) hm (fun _ _ _ => rfl) (fun _ _ _ => rfl) (by rw [hk2 1 (by decide), s4]; exact hF) (by rw [hk2 1 (by decide), s4]; rfl)
  have loop : ∀ (j m p : Nat) (acc : List Ord) (τ : MS) (h : AH), m < j → prs (σ.2 7) S.text.length (S.text.length + 1) 0 = ((prs (σ.2 7) S.text.length (m + 1) p).1, (prs (σ.2 7) S.text.length (m + 1) p).2.1, acc ++ (prs (σ.2 7) S.text.length (m + 1) p).2.2) → S.text.length ≤ p + m → 2 * acc.length ≤ p → p ≤ S.text.length → MSt g ad h0 τ h → RL σ0 τ acc (ordr (σ.2 7) S.text.length p) → AW g M 0 0 36 [some (.ref (ad 0)), none, none, none] [] h := by
    intro j
    induction j with
    | zero => intro m p acc τ h h1; omega
    | succ j ih =>
      intro m p acc τ h hmj hP hpm hacc hpe hm hx
      obtain ⟨x1, x2, x3, x4, x5, x6, x7⟩ := id hx
      obtain ⟨q1, q2, q3⟩ := ordr_ok (T := σ.2 7) (e := S.text.length) (p := p)
      refine a_aload_n cx dX3_read_36 rfl ?_
      refine a_get cx fl_X3_235.g dX3_read_37 hm.o rfl ?_
      refine AW.topi x4 ?_
      refine a_if_ne cx (tgt := 70) dX3_read_40 (by decide) (fun c40 => ?_) (fun c40 => ?_)
      · have w1 : (ordr (σ.2 7) S.text.length p).2.1 = true := bI_n0 c40
        rw [prs_bad w1] at hP
        refine a_aload_n cx dX3_read_70 rfl ?_
        refine a_get cx fl_X3_235.g dX3_read_71 hm.o rfl ?_
        refine AW.topi x4 ?_
        refine a_if_ne cx (tgt := 88) dX3_read_74 (by decide) (fun c74 => ?_) (fun c74 => absurd (by rw [w1] at c74; exact c74) (by decide))
        exact E88 τ h hm x1 x5 (by rw [← eP, hP]; exact x3) (Or.inl (by rw [← eP, hP]))
      · have w1 : (ordr (σ.2 7) S.text.length p).2.1 = false := (bI_0 _).mp c40
        obtain ⟨q4, q5⟩ := q3 w1
        refine a_aload_n cx dX3_read_43 rfl ?_
        refine a_iconst cx (v := 0) dX3_read_44 (by decide) ?_
        refine m_calli cx (k3_here (σ := τ) (i := 0) (p := (ordr (σ.2 7) S.text.length p).1) (e := S.text.length) cx.htr x3 ((x1 12 (by decide) (by decide) (by decide)).trans s5) (by have := q2 hpe; omega) hl60 (by omega)) (lw_V q2369 q2371 qs71 q87 q2372) dn_X3_here (RN.of rfl rfl rfl rfl) rfl hm rfl rfl (Nat.le_of_ble_eq_true rfl) dX3_read_45 (Nat.zero_le _) (Nat.zero_le _) (fun h hm => ?_)
        refine AW.topi (show hr (τ.2 7) S.text.length ((ordr (σ.2 7) S.text.length p).1 + 0) = hr (σ.2 7) S.text.length (ordr (σ.2 7) S.text.length p).1 by rw [x5 7 (by decide), s3]; rfl) ?_
        refine a_bipush cx (v := 59) dX3_read_48 (by decide) ?_
        refine a_icmp_ne cx (tgt := 70) dX3_read_50 (by decide) (fun c50 => ?_) (fun c50 => ?_)
        · rw [prs_end w1 c50] at hP
          refine a_aload_n cx dX3_read_70 rfl ?_
          refine a_get cx fl_X3_235.g dX3_read_71 hm.o rfl ?_
          refine AW.topi x4 ?_
          refine a_if_ne cx (tgt := 88) dX3_read_74 (by decide) (fun c74 => absurd (show bI (ordr (σ.2 7) S.text.length p).2.1 = 0 by rw [w1]; rfl) c74) (fun c74 => ?_)
          refine a_aload_n cx dX3_read_77 rfl ?_
          refine a_get cx fl_X3_225.g dX3_read_78 hm.o rfl ?_
          refine AW.topi x3 ?_
          refine a_aload_n cx dX3_read_81 rfl ?_
          refine a_get cx fl_X3_228.g dX3_read_82 hm.o rfl ?_
          refine AW.topi ((x1 12 (by decide) (by decide) (by decide)).trans s5) ?_
          refine a_icmp_ge cx (tgt := 102) dX3_read_85 (by decide) (fun c85 => ?_) (fun c85 => ?_)
          · have d85 := le_nI c85 (by omega) (by have := q2 hpe; omega)
            exact E102 τ h (acc ++ [(ordr (σ.2 7) S.text.length p).2.2]) hm x1 x5 (by rw [List.length_append]; exact x2) (hx.all w1) (by rw [← eP, hP]) (by rw [← eP, hP]; exact fun q => q.elim (fun q => by cases q) (fun q => absurd (show (ordr (σ.2 7) S.text.length p).1 < S.text.length from q) (by omega))) (by rw [List.length_append, List.length_singleton]; omega)
          · have d85 := nle_nI c85 (by omega) (by have := q2 hpe; omega)
            exact E88 τ h hm x1 x5 (by rw [← eP, hP]; exact x3) (Or.inr (by rw [← eP, hP]; exact d85))
        · rw [prs_go w1 c50] at hP
          have hlt9 := hr_lt (c := 59) c50 (by decide)
          obtain ⟨m9, rfl⟩ : ∃ m9, m = m9 + 1 := ⟨m - 1, by omega⟩
          refine a_aload_n cx dX3_read_53 rfl ?_
          refine a_dup cx dX3_read_54 rfl ?_
          refine a_get cx fl_X3_225.g dX3_read_55 hm.o rfl ?_
          refine AW.topi x3 ?_
          refine a_iconst cx (v := 1) dX3_read_58 (by decide) ?_
          refine a_iadd cx dX3_read_59 ?_
          refine AW.topi (nI_1 _) ?_
          refine m_put cx (i := 11) fl_X3_225 dX3_read_60 hm rfl rfl rfl (fun h hm => ?_)
          refine a_aload_n cx dX3_read_63 rfl ?_
          refine m_call cx (k3_readsOne (σ := mv τ 11 (nI ((ordr (σ.2 7) S.text.length p).1 + 1))) (p := (ordr (σ.2 7) S.text.length p).1 + 1) (e := S.text.length) (o := acc.length + 1) cx.htr (mv_at _ _ _) ((x1 12 (by decide) (by decide) (by decide)).trans s5) (by omega) hl60 (by omega) (x4.trans (by rw [w1]; rfl)) x2 (by omega)) (lw_V q2365 q2367 qs70 q87 q2368) dn_X3_readsOne (RN.of rfl rfl rfl rfl) rfl hm rfl rfl (Nat.le_of_ble_eq_true rfl) dX3_read_64 (Nat.zero_le _) (Nat.zero_le _) (fun v9 υ h hp hm => ?_)
          obtain ⟨rfl, hy⟩ := hp
          rw [show (mv τ 11 (nI ((ordr (σ.2 7) S.text.length p).1 + 1))).2 7 = σ.2 7 from (x5 7 (by decide)).trans s3] at hy
          refine a_goto cx (tgt := 36) dX3_read_67 (by decide) ?_
          refine ih m9 ((ordr (σ.2 7) S.text.length p).1 + 1) (acc ++ [(ordr (σ.2 7) S.text.length p).2.2]) υ h (by omega) (by rw [hP, List.append_assoc]; rfl) (by omega) (by rw [List.length_append, List.length_singleton]; omega) (by omega) hm (hx.next w1 _ hy)
  exact loop (S.text.length + 1) S.text.length 0 [] τ h (by omega) rfl (by omega) (by simp) (by omega) hm (RL.first hx)
