/-! THE MODEL: the reader -/
set_option maxRecDepth 100000
/-- what reading a number does -/
abbrev RDn (σ σ' : MS) (q : Nat) (r : Nat × Bool × Int32) : Prop :=
  (∀ k, k ≠ 11 → k ≠ 14 → σ'.1 k = σ.1 k) ∧ σ'.1 11 = nI r.1 ∧ σ'.1 14 = bI r.2.1 ∧ (∀ i, i ≠ 8 → σ'.2 i = σ.2 i) ∧ (r.2.1 = false → σ'.2 8 = upd (σ.2 8) q r.2.2) ∧ (r.2.1 = true → σ'.2 8 = σ.2 8)
/-- .. a word's letters -/
abbrev RDw (σ σ' : MS) (r : Nat × Bool) : Prop := (∀ k, k ≠ 11 → k ≠ 14 → σ'.1 k = σ.1 k) ∧ σ'.1 11 = nI r.1 ∧ σ'.1 14 = bI r.2 ∧ σ'.2 = σ.2
/-- .. a word and numbers -/
abbrev RDs (σ σ' : MS) (o n : Nat) (r : Nat × Bool × List Int32) : Prop :=
  (∀ k, k ≠ 11 → k ≠ 14 → σ'.1 k = σ.1 k) ∧ σ'.1 11 = nI r.1 ∧ σ'.1 14 = bI r.2.1 ∧ (∀ i, i ≠ 8 → σ'.2 i = σ.2 i) ∧ (∀ q, q < 4 * o + 1 → σ'.2 8 q = σ.2 8 q) ∧ (r.2.1 = false → ∀ m, m < n → σ'.2 8 (4 * o + 1 + m) = r.2.2.getD m 0)
/-- .. an order -/
abbrev RDo (σ σ' : MS) (o : Nat) (r : Nat × Bool × Ord) : Prop :=
  (∀ k, k ≠ 11 → k ≠ 14 → σ'.1 k = σ.1 k) ∧ σ'.1 11 = nI r.1 ∧ σ'.1 14 = bI r.2.1 ∧ (∀ i, i ≠ 8 → σ'.2 i = σ.2 i) ∧ (∀ q, q < 4 * o → σ'.2 8 q = σ.2 8 q) ∧ (r.2.1 = false → σ'.2 8 (4 * o) = r.2.2.1 ∧ ∀ m, m < nArg r.2.2.1 → σ'.2 8 (4 * o + 1 + m) = r.2.2.2.getD m 0)
theorem drop_at {w : List Nat} {k : Nat} (h : k < w.length) : w.drop k = w.getD k 0 :: w.drop (k + 1) := by
  rw [List.drop_eq_getElem_cons h, List.getD_eq_getElem?_getD, List.getElem?_eq_getElem h]; rfl
abbrev rm_X3_here : Room := { frames := 0, cells := 0, slots := 0, locals := 0 }
set_option maxHeartbeats 4000000 in
theorem k3_here {l : Launch} {g : GP} {ad : Nat → Nat} {σ : MS} (htr : l.stackTraces = false) {i p e : Nat} (hp : σ.1 11 = nI p) (he : σ.1 12 = nI e) (hp60 : p ≤ 60) (he60 : e ≤ 60) (hi : i ≤ 2) : MKi l g ad yX3_here cX3_here 2 (some .int) rm_X3_here σ [.int (nI i)] (hr (σ.2 7) e (p + i)) (σ) := by
  refine MK.of (by decide +kernel) htr (Nat.le_of_ble_eq_true rfl) (L0 := [some (.ref (ad 0)), some (.int (nI i))]) rfl ?_
  intro M h0 h cx _ hq hm
  refine a_aload_n cx dX3_here_0 rfl ?_
  refine a_get cx fl_X3_225.g dX3_here_1 hm.o rfl ?_
  refine AW.topi hp ?_
  refine a_iload_n cx dX3_here_4 rfl ?_
  refine a_iadd cx dX3_here_5 ?_
  refine AW.topi (nI_add _ _) ?_
  refine a_aload_n cx dX3_here_6 rfl ?_
  refine a_get cx fl_X3_228.g dX3_here_7 hm.o rfl ?_
  refine AW.topi he ?_
  refine a_icmp_ge cx (tgt := 27) dX3_here_10 (by decide) (fun c10 => ?_) (fun c10 => ?_)
  · have d10 := le_nI c10 (by omega) (by omega)
    have r : hr (σ.2 7) e (p + i) = -1 := by unfold hr; rw [if_neg (by omega)]
    refine a_iconst cx (v := -1) dX3_here_27 (by decide) ?_
    exact a_iret cx hq dX3_here_28 ⟨_, ⟨by rw [r], rfl⟩, hm⟩ (Nat.zero_le _) (Nat.zero_le _)
  · have d10 := nle_nI c10 (by omega) (by omega)
    have r : hr (σ.2 7) e (p + i) = (σ.2 7) (p + i) := by unfold hr; rw [if_pos d10]
    refine a_aload_n cx dX3_here_13 rfl ?_
    refine a_get cx fl_X3_28.g dX3_here_14 hm.o rfl ?_
    refine a_aload_n cx dX3_here_17 rfl ?_
    refine a_get cx fl_X3_225.g dX3_here_18 hm.o rfl ?_
    refine AW.topi hp ?_
    refine a_iload_n cx dX3_here_21 rfl ?_
    refine a_iadd cx dX3_here_22 ?_
    refine AW.topi (nI_add _ _) ?_
    refine a_iald cx dX3_here_23 hm.a7 rfl (by omega) (by decide) ?_
    refine a_goto cx (tgt := 28) dX3_here_24 (by decide) ?_
    exact a_iret cx hq dX3_here_28 ⟨_, ⟨by rw [r], rfl⟩, hm⟩ (Nat.zero_le _) (Nat.zero_le _)
abbrev rm_X3_number : Room := { frames := 1, cells := 0, slots := 0, locals := 22 }
set_option maxHeartbeats 4000000 in
theorem k3_number {l : Launch} {g : GP} {ad : Nat → Nat} {σ : MS} (htr : l.stackTraces = false) {k p e o : Nat} (hp : σ.1 11 = nI p) (he : σ.1 12 = nI e) (hp60 : p ≤ 60) (he60 : e ≤ 60) (ho : σ.1 13 = nI o) (ho31 : o ≤ 31) (hk : k ≤ 3) : MK l g ad yX3_number cX3_number 3 none rm_X3_number σ [.int (nI k)] (fun v σ' => v = none ∧ RDn σ σ' (4 * o + k) (numb (σ.2 7) e p)) := by
  refine MK.of (by decide +kernel) htr (Nat.le_of_ble_eq_true rfl) (L0 := [some (.ref (ad 0)), some (.int (nI k)), none]) rfl ?_
  intro M h0 h cx _ hq hm
  refine a_aload_n cx dX3_number_0 rfl ?_
  refine a_aload_n cx dX3_number_1 rfl ?_
  refine a_iconst cx (v := 0) dX3_number_2 (by decide) ?_
  refine m_calli cx (k3_here (i := 0) cx.htr hp he hp60 he60 (by omega)) (lw_V q2369 q2371 qs71 q87 q2372) dn_X3_here (RN.of rfl rfl rfl rfl) rfl hm rfl rfl (Nat.le_of_ble_eq_true rfl) dX3_number_3 (Nat.zero_le _) (Nat.zero_le _) (fun h hm => ?_)
  refine a_bipush cx (v := 32) dX3_number_6 (by decide) ?_
  refine a_icmp_eq cx (tgt := 15) dX3_number_8 (by decide) (fun c8 => ?_) (fun c8 => ?_)
  · have h8 : hr (σ.2 7) e p = 32 := c8
    have hpe : p < e := hr_lt (c := 32) h8 (by decide)
    refine a_iconst cx (v := 0) dX3_number_15 (by decide) ?_
    refine m_put cx (i := 14) fl_X3_235 dX3_number_16 hm rfl rfl rfl (fun h hm => ?_)
    refine a_aload_n cx dX3_number_19 rfl ?_
    refine a_dup cx dX3_number_20 rfl ?_
    refine a_get cx fl_X3_225.g dX3_number_21 hm.o rfl ?_
    refine AW.topi (show _ = nI p from hp) ?_
    refine a_aload_n cx dX3_number_24 rfl ?_
    refine a_get cx fl_X3_235.g dX3_number_25 hm.o rfl ?_
    refine a_if_eq cx (tgt := 35) dX3_number_28 (by decide) (fun c28 => ?_) (fun c28 => absurd (by rw [mv_at]; try rfl) c28)
    refine a_iconst cx (v := 1) dX3_number_35 (by decide) ?_
    refine a_iadd cx dX3_number_36 ?_
    refine AW.topi (nI_1 _) ?_
    refine m_put cx (i := 11) fl_X3_225 dX3_number_37 hm rfl rfl rfl (fun h hm => ?_)
    refine a_aload_n cx dX3_number_40 rfl ?_
    refine a_aload_n cx dX3_number_41 rfl ?_
    refine a_get cx fl_X3_235.g dX3_number_42 hm.o rfl ?_
    refine a_if_ne cx (tgt := 63) dX3_number_45 (by decide) (fun c45 => absurd rfl c45) (fun c45 => ?_)
    refine a_aload_n cx dX3_number_48 rfl ?_
    refine a_iconst cx (v := 0) dX3_number_49 (by decide) ?_
    refine m_calli cx (k3_here (σ := (mv (mv σ 14 0) 11 (nI (p + 1)))) (i := 0) (p := p + 1) (e := e) cx.htr (by rfl) (by exact he) (by omega) (by omega) (by omega)) (lw_V q2369 q2371 qs71 q87 q2372) dn_X3_here (RN.of rfl rfl rfl rfl) rfl hm rfl rfl (Nat.le_of_ble_eq_true rfl) dX3_number_50 (Nat.zero_le _) (Nat.zero_le _) (fun h hm => ?_)
    refine a_bipush cx (v := 48) dX3_number_53 (by decide) ?_
    refine a_bipush cx (v := 57) dX3_number_55 (by decide) ?_
    refine s_calli cx (k3_in cx.htr) (lw_S q2067 q2068 q87 q2069) dn_X3_in (RN.of rfl rfl rfl rfl) rfl rfl (Nat.le_of_ble_eq_true rfl) dX3_number_57 (Nat.zero_le _) (Nat.zero_le _) ?_
    refine a_if_ne cx (tgt := 67) dX3_number_60 (by decide) (fun c60 => ?_) (fun c60 => ?_)
    · have h60 : inR (hr (σ.2 7) e (p + 1)) 48 57 = true := bI_n0 c60
      have hpe2 := dig_lt h60
      refine a_iconst cx (v := 0) dX3_number_67 (by decide) ?_
      refine m_put cx (i := 14) fl_X3_235 dX3_number_68 hm rfl rfl rfl (fun h hm => ?_)
      refine a_aload_n cx dX3_number_71 rfl ?_
      refine a_get cx fl_X3_235.g dX3_number_72 hm.o rfl ?_
      refine a_if_eq cx (tgt := 79) dX3_number_75 (by decide) (fun c75 => ?_) (fun c75 => absurd (by rw [mv_at]; try rfl) c75)
      refine a_aload_n cx dX3_number_79 rfl ?_
      refine a_iconst cx (v := 0) dX3_number_80 (by decide) ?_
      refine m_calli cx (k3_here (σ := (mv (mv (mv σ 14 0) 11 (nI (p + 1))) 14 0)) (i := 0) (p := p + 1) (e := e) cx.htr (by rfl) (by exact he) (by omega) (by omega) (by omega)) (lw_V q2369 q2371 qs71 q87 q2372) dn_X3_here (RN.of rfl rfl rfl rfl) rfl hm rfl rfl (Nat.le_of_ble_eq_true rfl) dX3_number_81 (Nat.zero_le _) (Nat.zero_le _) (fun h hm => ?_)
      refine a_bipush cx (v := 48) dX3_number_84 (by decide) ?_
      refine a_isub cx dX3_number_86 ?_
      refine a_istore_n cx dX3_number_87 (Nat.le_of_ble_eq_true rfl) rfl ?_
      refine a_aload_n cx dX3_number_88 rfl ?_
      refine a_dup cx dX3_number_89 rfl ?_
      refine a_get cx fl_X3_225.g dX3_number_90 hm.o rfl ?_
      refine AW.topi (show _ = nI (p + 1) from rfl) ?_
      refine a_iconst cx (v := 1) dX3_number_93 (by decide) ?_
      refine a_iadd cx dX3_number_94 ?_
      refine AW.topi (nI_1 _) ?_
      refine m_put cx (i := 11) fl_X3_225 dX3_number_95 hm rfl rfl rfl (fun h hm => ?_)
      refine a_aload_n cx dX3_number_98 rfl ?_
      refine a_iconst cx (v := 0) dX3_number_99 (by decide) ?_
      refine m_calli cx (k3_here (σ := (mv (mv (mv (mv σ 14 0) 11 (nI (p + 1))) 14 0) 11 (nI (p + 1 + 1)))) (i := 0) (p := p + 1 + 1) (e := e) cx.htr (by rfl) (by exact he) (by omega) (by omega) (by omega)) (lw_V q2369 q2371 qs71 q87 q2372) dn_X3_here (RN.of rfl rfl rfl rfl) rfl hm rfl rfl (Nat.le_of_ble_eq_true rfl) dX3_number_100 (Nat.zero_le _) (Nat.zero_le _) (fun h hm => ?_)
      refine a_bipush cx (v := 48) dX3_number_103 (by decide) ?_
      refine a_bipush cx (v := 57) dX3_number_105 (by decide) ?_
      refine s_calli cx (k3_in cx.htr) (lw_S q2067 q2068 q87 q2069) dn_X3_in (RN.of rfl rfl rfl rfl) rfl rfl (Nat.le_of_ble_eq_true rfl) dX3_number_107 (Nat.zero_le _) (Nat.zero_le _) ?_
      refine a_if_eq cx (tgt := 137) dX3_number_110 (by decide) (fun c110 => ?_) (fun c110 => ?_)
      · have h110 : inR (hr (σ.2 7) e (p + 2)) 48 57 = false := (bI_0 _).mp c110
        have eN : numb (σ.2 7) e p = (p + 2, false, hr (σ.2 7) e (p + 1) - 48) := by unfold numb; rw [if_pos h8, if_pos h60, if_neg (by rw [h110]; decide)]
        refine a_aload_n cx dX3_number_137 rfl ?_
        refine a_get cx fl_X3_31.g dX3_number_138 hm.o rfl ?_
        refine a_iconst cx (v := 4) dX3_number_141 (by decide) ?_
        refine a_aload_n cx dX3_number_142 rfl ?_
        refine a_get cx fl_X3_249.g dX3_number_143 hm.o rfl ?_
        refine AW.topi (show _ = nI o from ho) ?_
        refine a_imul cx dX3_number_146 ?_
        refine AW.topi (pk_mul 4 _) ?_
        refine a_iload_n cx dX3_number_147 rfl ?_
        refine a_iadd cx dX3_number_148 ?_
        refine AW.topi (nI_add _ _) ?_
        refine a_iload_n cx dX3_number_149 rfl ?_
        refine m_iast cx (i := 7) (by decide) dX3_number_150 hm rfl (show _ < 240 from by omega) (fun h hm => ?_)
        exact a_vret cx hq dX3_number_151 ⟨_, ⟨rfl, by rw [eN]; exact ⟨fun k9 h1 h2 => by simp [mv, upd, ma, h1, h2], by rfl, by rfl, fun i9 h1 => by simp [mv, ma, h1], fun h9 => (by first | rfl | cases h9), fun h9 => (by first | rfl | cases h9)⟩⟩, hm⟩ (Nat.zero_le _) (Nat.zero_le _)
      · have h110 : inR (hr (σ.2 7) e (p + 2)) 48 57 = true := bI_n0 c110
        have hpe3 := dig_lt h110
        have eN : numb (σ.2 7) e p = (p + 3, false, 10 * (hr (σ.2 7) e (p + 1) - 48) + hr (σ.2 7) e (p + 2) - 48) := by unfold numb; rw [if_pos h8, if_pos h60, if_pos h110]
        refine a_bipush cx (v := 10) dX3_number_113 (by decide) ?_
        refine a_iload_n cx dX3_number_115 rfl ?_
        refine a_imul cx dX3_number_116 ?_
        refine a_aload_n cx dX3_number_117 rfl ?_
        refine a_iconst cx (v := 0) dX3_number_118 (by decide) ?_
        refine m_calli cx (k3_here (σ := (mv (mv (mv (mv σ 14 0) 11 (nI (p + 1))) 14 0) 11 (nI (p + 1 + 1)))) (i := 0) (p := p + 1 + 1) (e := e) cx.htr (by rfl) (by exact he) (by omega) (by omega) (by omega)) (lw_V q2369 q2371 qs71 q87 q2372) dn_X3_here (RN.of rfl rfl rfl rfl) rfl hm rfl rfl (Nat.le_of_ble_eq_true rfl) dX3_number_119 (Nat.zero_le _) (Nat.zero_le _) (fun h hm => ?_)
        refine a_iadd cx dX3_number_122 ?_
        refine a_bipush cx (v := 48) dX3_number_123 (by decide) ?_
        refine a_isub cx dX3_number_125 ?_
        refine a_istore_n cx dX3_number_126 (Nat.le_of_ble_eq_true rfl) rfl ?_
        refine a_aload_n cx dX3_number_127 rfl ?_
        refine a_dup cx dX3_number_128 rfl ?_
        refine a_get cx fl_X3_225.g dX3_number_129 hm.o rfl ?_
        refine AW.topi (show _ = nI (p + 1 + 1) from rfl) ?_
        refine a_iconst cx (v := 1) dX3_number_132 (by decide) ?_
        refine a_iadd cx dX3_number_133 ?_
        refine AW.topi (nI_1 _) ?_
        refine m_put cx (i := 11) fl_X3_225 dX3_number_134 hm rfl rfl rfl (fun h hm => ?_)
        refine a_aload_n cx dX3_number_137 rfl ?_
        refine a_get cx fl_X3_31.g dX3_number_138 hm.o rfl ?_
        refine a_iconst cx (v := 4) dX3_number_141 (by decide) ?_
        refine a_aload_n cx dX3_number_142 rfl ?_
        refine a_get cx fl_X3_249.g dX3_number_143 hm.o rfl ?_
        refine AW.topi (show _ = nI o from ho) ?_
        refine a_imul cx dX3_number_146 ?_
        refine AW.topi (pk_mul 4 _) ?_
        refine a_iload_n cx dX3_number_147 rfl ?_
        refine a_iadd cx dX3_number_148 ?_
        refine AW.topi (nI_add _ _) ?_
        refine a_iload_n cx dX3_number_149 rfl ?_
        refine m_iast cx (i := 7) (by decide) dX3_number_150 hm rfl (show _ < 240 from by omega) (fun h hm => ?_)
        exact a_vret cx hq dX3_number_151 ⟨_, ⟨rfl, by rw [eN]; exact ⟨fun k9 h1 h2 => by simp [mv, upd, ma, h1, h2], by rfl, by rfl, fun i9 h1 => by simp [mv, ma, h1], fun h9 => (by first | rfl | cases h9), fun h9 => (by first | rfl | cases h9)⟩⟩, hm⟩ (Nat.zero_le _) (Nat.zero_le _)
    · have h60 : inR (hr (σ.2 7) e (p + 1)) 48 57 = false := (bI_0 _).mp c60
      have eN : numb (σ.2 7) e p = (p + 1, true, 0) := by unfold numb; rw [if_pos h8, if_neg (by rw [h60]; decide)]
      refine a_iconst cx (v := 1) dX3_number_63 (by decide) ?_
      refine a_goto cx (tgt := 68) dX3_number_64 (by decide) ?_
      refine m_put cx (i := 14) fl_X3_235 dX3_number_68 hm rfl rfl rfl (fun h hm => ?_)
      refine a_aload_n cx dX3_number_71 rfl ?_
      refine a_get cx fl_X3_235.g dX3_number_72 hm.o rfl ?_
      refine a_if_eq cx (tgt := 79) dX3_number_75 (by decide) (fun c75 => absurd c75 (by rw [mv_at]; decide)) (fun c75 => ?_)
      exact a_vret cx hq dX3_number_78 ⟨_, ⟨rfl, by rw [eN]; exact ⟨fun k9 h1 h2 => by simp [mv, upd, ma, h1, h2], by rfl, by rfl, fun i9 h1 => by simp [mv, ma, h1], fun h9 => (by first | rfl | cases h9), fun h9 => (by first | rfl | cases h9)⟩⟩, hm⟩ (Nat.zero_le _) (Nat.zero_le _)
  · have eN : numb (σ.2 7) e p = (p, true, 0) := by unfold numb; rw [if_neg (show ¬ hr (σ.2 7) e p = 32 from c8)]
    refine a_iconst cx (v := 1) dX3_number_11 (by decide) ?_
    refine a_goto cx (tgt := 16) dX3_number_12 (by decide) ?_
    refine m_put cx (i := 14) fl_X3_235 dX3_number_16 hm rfl rfl rfl (fun h hm => ?_)
    refine a_aload_n cx dX3_number_19 rfl ?_
    refine a_dup cx dX3_number_20 rfl ?_
    refine a_get cx fl_X3_225.g dX3_number_21 hm.o rfl ?_
    refine AW.topi (show _ = nI p from hp) ?_
    refine a_aload_n cx dX3_number_24 rfl ?_
    refine a_get cx fl_X3_235.g dX3_number_25 hm.o rfl ?_
    refine a_if_eq cx (tgt := 35) dX3_number_28 (by decide) (fun c28 => absurd c28 (by rw [mv_at]; decide)) (fun c28 => ?_)
    refine a_iconst cx (v := 0) dX3_number_31 (by decide) ?_
    refine a_goto cx (tgt := 36) dX3_number_32 (by decide) ?_
    refine a_iadd cx dX3_number_36 ?_
    refine AW.topi (nI_add _ 0) ?_
    refine m_put cx (i := 11) fl_X3_225 dX3_number_37 hm rfl rfl rfl (fun h hm => ?_)
    refine a_aload_n cx dX3_number_40 rfl ?_
    refine a_aload_n cx dX3_number_41 rfl ?_
    refine a_get cx fl_X3_235.g dX3_number_42 hm.o rfl ?_
    refine a_if_ne cx (tgt := 63) dX3_number_45 (by decide) (fun c45 => ?_) (fun c45 => absurd c45 (show ¬ (1 : Int32) = 0 by decide))
    refine a_iconst cx (v := 1) dX3_number_63 (by decide) ?_
    refine a_goto cx (tgt := 68) dX3_number_64 (by decide) ?_
    refine m_put cx (i := 14) fl_X3_235 dX3_number_68 hm rfl rfl rfl (fun h hm => ?_)
    refine a_aload_n cx dX3_number_71 rfl ?_
    refine a_get cx fl_X3_235.g dX3_number_72 hm.o rfl ?_
    refine a_if_eq cx (tgt := 79) dX3_number_75 (by decide) (fun c75 => absurd c75 (by rw [mv_at]; decide)) (fun c75 => ?_)
    exact a_vret cx hq dX3_number_78 ⟨_, ⟨rfl, by rw [eN]; exact ⟨fun k9 h1 h2 => by simp [mv, upd, ma, h1, h2], by rfl, by rfl, fun i9 h1 => by simp [mv, ma, h1], fun h9 => (by first | rfl | cases h9), fun h9 => (by first | rfl | cases h9)⟩⟩, hm⟩ (Nat.zero_le _) (Nat.zero_le _)
abbrev rm_X3_says : Room := { frames := 4, cells := 0, slots := 0, locals := 85 }
set_option maxHeartbeats 4000000 in
theorem k3_says {l : Launch} {g : GP} {ad : Nat → Nat} {σ : MS} (htr : l.stackTraces = false) {t n p e o : Nat} (hp : σ.1 11 = nI p) (he : σ.1 12 = nI e) (hp60 : p ≤ 60) (he60 : e ≤ 60) (hpe0 : p ≤ e) (hw0 : σ.1 14 = 0) (ho : σ.1 13 = nI o) (ho31 : o ≤ 31) (hn3 : n ≤ 3) (ht : t < 14) : MK l g ad yX3_says cX3_says 4 none rm_X3_says σ [.ref (gs g (10 + t)), .int (nI n)] (fun v σ' => v = none ∧ RDs σ σ' o n (sayN (σ.2 7) e (ltr t) n p)) := by
  refine MK.of (by decide +kernel) htr (Nat.le_of_ble_eq_true rfl) (L0 := [some (.ref (ad 0)), some (.ref (gs g (10 + t))), some (.int (nI n)), none]) rfl ?_
  intro M h0 h cx _ hq hm
  have hl64 : ∀ t, t < 14 → (ltr t).length < 100 := by decide +kernel
  have hl9 := hl64 t ht
  have E66 : ∀ (τ : MS) (h : AH), MSt g ad h0 τ h → RDw σ τ (say (σ.2 7) e (ltr t) p) → AW g M 0 0 66 [some (.ref (ad 0)), some (.ref (gs g (10 + t))), some (.int (nI n)), none] [] h := by
    intro τ h hm hx
    obtain ⟨x1, x2, x3, x4⟩ := hx
    refine a_iconst cx (v := 1) dX3_says_66 (by decide) ?_
    refine a_istore_n cx dX3_says_67 (Nat.le_of_ble_eq_true rfl) rfl ?_
    have loop2 : ∀ (j i pi : Nat) (wk : Bool) (acc : List Int32) (τ : MS) (h : AH), i ≤ n → n < i + j → pi ≤ e → acc.length = i → ((wk = false ∧ (sayN (σ.2 7) e (ltr t) n p).1 = (nums (σ.2 7) e (n - i) pi).1 ∧ (sayN (σ.2 7) e (ltr t) n p).2.1 = (nums (σ.2 7) e (n - i) pi).2.1 ∧ (sayN (σ.2 7) e (ltr t) n p).2.2 = acc ++ (nums (σ.2 7) e (n - i) pi).2.2) ∨ (wk = true ∧ (sayN (σ.2 7) e (ltr t) n p).1 = pi ∧ (sayN (σ.2 7) e (ltr t) n p).2.1 = true)) → MSt g ad h0 τ h → RDs σ τ o i (pi, wk, acc) → AW g M 0 0 68 [some (.ref (ad 0)), some (.ref (gs g (10 + t))), some (.int (nI n)), some (.int (nI (i + 1)))] [] h := by
      intro j
      induction j with
      | zero => intro i pi wk acc τ h h1 h2; omega
      | succ j ih =>
        intro i pi wk acc τ h h1 h2 hpi hal hi9 hm hx
        obtain ⟨x1, x2, x3, x4, x5, x6⟩ := hx
        refine a_iload_n cx dX3_says_68 rfl ?_
        refine a_iload_n cx dX3_says_69 rfl ?_
        refine a_icmp_gt cx (tgt := 91) dX3_says_70 (by decide) (fun c70 => ?_) (fun c70 => ?_)
        · have d70 : n < i + 1 := (nI_ltI (by omega) (by omega)).mp c70
          obtain rfl : i = n := by omega
          rw [Nat.sub_self] at hi9
          have hE : (sayN (σ.2 7) e (ltr t) i p).1 = pi ∧ (sayN (σ.2 7) e (ltr t) i p).2.1 = wk ∧ (wk = false → (sayN (σ.2 7) e (ltr t) i p).2.2 = acc) := by
            rcases hi9 with ⟨e1, e2, e3, e4⟩ | ⟨e1, e2, e3⟩
            · exact ⟨e2, e3.trans e1.symm, fun _ => by rw [e4]; exact List.append_nil _⟩
            · exact ⟨e2, e3.trans e1.symm, fun q => by rw [q] at e1; cases e1⟩
          exact a_vret cx hq dX3_says_91 ⟨_, ⟨rfl, by exact ⟨x1, x2.trans (by rw [hE.1]), x3.trans (by rw [hE.2.1]), x4, x5, fun q m hm9 => by
  have q2 : wk = false := hE.2.1.symm.trans q
  rw [hE.2.2 q2]
  exact x6 q2 m hm9⟩⟩, hm⟩ (Nat.zero_le _) (Nat.zero_le _)
        · have d70 : i < n := by
            have : ¬ n < i + 1 := fun q => c70 ((nI_ltI (by omega) (by omega)).mpr q)
            omega
          refine a_aload_n cx dX3_says_73 rfl ?_
          refine a_get cx fl_X3_235.g dX3_says_74 hm.o rfl ?_
          refine AW.topi x3 ?_
          refine a_if_ne cx (tgt := 91) dX3_says_77 (by decide) (fun c77 => ?_) (fun c77 => ?_)
          · have w1 : wk = true := bI_n0 c77
            obtain ⟨e1, e2, e3⟩ : wk = true ∧ (sayN (σ.2 7) e (ltr t) n p).1 = pi ∧ (sayN (σ.2 7) e (ltr t) n p).2.1 = true := by
              rcases hi9 with ⟨e1, e2⟩ | e9
              · rw [w1] at e1; cases e1
              · exact e9
            exact a_vret cx hq dX3_says_91 ⟨_, ⟨rfl, by exact ⟨x1, x2.trans (by rw [e2]), x3.trans (by rw [e3, e1]), x4, x5, fun q => by rw [e3] at q; cases q⟩⟩, hm⟩ (Nat.zero_le _) (Nat.zero_le _)
          · have w1 : wk = false := (bI_0 _).mp c77
            subst w1
            obtain ⟨e2, e3, e4⟩ : (sayN (σ.2 7) e (ltr t) n p).1 = (nums (σ.2 7) e (n - i) pi).1 ∧ (sayN (σ.2 7) e (ltr t) n p).2.1 = (nums (σ.2 7) e (n - i) pi).2.1 ∧ (sayN (σ.2 7) e (ltr t) n p).2.2 = acc ++ (nums (σ.2 7) e (n - i) pi).2.2 := by
              rcases hi9 with ⟨e1, e2⟩ | ⟨e1, e2⟩
              · exact e2
              · cases e1
            obtain ⟨i9, hi8⟩ : ∃ i9, n - i = i9 + 1 := ⟨n - i - 1, by omega⟩
            rw [hi8, nums] at e2 e3 e4
            dsimp only at e2 e3 e4
            refine a_aload_n cx dX3_says_80 rfl ?_
            refine a_iload_n cx dX3_says_81 rfl ?_
            refine m_call cx (k3_number (σ := τ) (k := i + 1) (p := pi) (e := e) (o := o) cx.htr x2 ((x1 12 (by decide) (by decide)).trans he) (by omega) he60 ((x1 13 (by decide) (by decide)).trans ho) ho31 (by omega)) (lw_V q2384 q2386 qs74 q87 q2387) dn_X3_number (RN.of rfl rfl rfl rfl) rfl hm rfl rfl (Nat.le_of_ble_eq_true rfl) dX3_says_82 (Nat.zero_le _) (Nat.zero_le _) (fun v9 υ h hp hm => ?_)
            obtain ⟨rfl, y1, y2, y3, y4, y5, y6⟩ := hp
            rw [show τ.2 7 = σ.2 7 from x4 7 (by decide)] at y2 y3 y5 y6
            obtain ⟨n1, n2⟩ := numb_le (T := σ.2 7) (e := e) (p := pi)
            have J : AW g M 0 0 68 [some (.ref (ad 0)), some (.ref (gs g (10 + t))), some (.int (nI n)), some (.int (nI (i + 1 + 1)))] [] h := by
              cases hw9 : (numb (σ.2 7) e pi).2.1 with
              | true =>
                rw [hw9] at e2 e3 e4 y3
                rw [if_pos rfl] at e2 e3
                refine ih (i + 1) (numb (σ.2 7) e pi).1 true (acc ++ [0]) υ h (by omega) (by omega) (n2 hpi) (by rw [List.length_append, hal]; rfl) (Or.inr ⟨rfl, e2, e3⟩) hm ⟨fun k9 h1 h2 => (y1 k9 h1 h2).trans (x1 k9 h1 h2), y2, y3, fun i9 h1 => (y4 i9 h1).trans (x4 i9 h1), fun q hq => by rw [y6 hw9]; exact x5 q hq, fun q => by cases q⟩
              | false =>
                rw [hw9] at e2 e3 e4 y3
                rw [if_neg (by decide)] at e2 e3 e4
                dsimp only at e2 e3 e4
                refine ih (i + 1) (numb (σ.2 7) e pi).1 false (acc ++ [(numb (σ.2 7) e pi).2.2]) υ h (by omega) (by omega) (n2 hpi) (by rw [List.length_append, hal]; rfl) (Or.inl ⟨rfl, by rw [show n - (i + 1) = i9 by omega]; exact e2, by rw [show n - (i + 1) = i9 by omega]; exact e3, by rw [show n - (i + 1) = i9 by omega, List.append_assoc]; exact e4⟩) hm ⟨fun k9 h1 h2 => (y1 k9 h1 h2).trans (x1 k9 h1 h2), y2, y3, fun i9 h1 => (y4 i9 h1).trans (x4 i9 h1), fun q hq => by rw [y5 hw9, upd_n (by omega)]; exact x5 q hq, fun _ m hm9 => ?_⟩
                rw [y5 hw9]
                by_cases hmi : m = i
                · subst hmi
                  rw [show 4 * o + 1 + m = 4 * o + (m + 1) by omega, upd_s, List.getD_eq_getElem?_getD, List.getElem?_append_right (by omega), hal, Nat.sub_self]; rfl
                · rw [upd_n (by omega), x6 rfl m (by omega), List.getD_eq_getElem?_getD, List.getD_eq_getElem?_getD, List.getElem?_append_left (by omega)]
            refine a_iincN cx dX3_says_85 rfl (Nat.le_of_ble_eq_true rfl) rfl ?_
            refine a_goto cx (tgt := 68) dX3_says_88 (by decide) ?_
            exact J
    obtain ⟨hs1, hs2⟩ := say_le (T := σ.2 7) (e := e) (ltr t) p (asc_ltr t ht).2
    refine loop2 (n + 1) 0 (say (σ.2 7) e (ltr t) p).1 (say (σ.2 7) e (ltr t) p).2 [] τ h (by omega) (by omega) (hs2 hpe0) rfl ?_ hm ⟨x1, x2, x3, fun i hi => by rw [x4], fun q hq => by rw [x4], fun _ m hm => by omega⟩
    cases hq9 : (say (σ.2 7) e (ltr t) p).2 with
    | false => exact Or.inl ⟨rfl, by unfold sayN; simp only [hq9]; exact ⟨rfl, rfl, rfl⟩⟩
    | true => exact Or.inr ⟨rfl, by unfold sayN; simp only [hq9]; exact ⟨rfl, rfl⟩⟩
  refine a_iconst cx (v := 0) dX3_says_0 (by decide) ?_
  refine a_istore_n cx dX3_says_1 (Nat.le_of_ble_eq_true rfl) rfl ?_
  have loop : ∀ (j k pk : Nat) (wk : Bool) (τ : MS) (h : AH), k ≤ (ltr t).length → (ltr t).length < k + j → pk ≤ e → (wk = true → k ≤ (ltr t).length) → ((wk = false ∧ say (σ.2 7) e ((ltr t).drop k) pk = say (σ.2 7) e (ltr t) p) ∨ (wk = true ∧ say (σ.2 7) e (ltr t) p = (pk, true))) → MSt g ad h0 τ h → RDw σ τ (pk, wk) → AW g M 0 0 2 [some (.ref (ad 0)), some (.ref (gs g (10 + t))), some (.int (nI n)), some (.int (nI k))] [] h := by
    intro j
    induction j with
    | zero => intro k pk wk τ h h1 h2; omega
    | succ j ih =>
      intro k pk wk τ h h1 h2 hpe hwl hi9 hm hx
      obtain ⟨x1, x2, x3, x4⟩ := hx
      refine a_iload_n cx dX3_says_2 rfl ?_
      refine a_aload_n cx dX3_says_3 rfl ?_
      refine AW.hk fun hk9 => ?_
      have hS9 := hk9.2.str ht
      obtain ⟨b9, hs9, hz9, ha9, -⟩ := id hS9
      refine c_Vp cx (j6_length cx.htr hS9) (lw_V q2382 q876 q877 q85 q878) dn_J6_length (RN.of rfl rfl rfl rfl) rfl (by assumption) rfl rfl rfl (Nat.le_of_ble_eq_true rfl) dX3_says_4 (Nat.le_of_ble_eq_true rfl) (Nat.le_of_ble_eq_true rfl) ?_
      refine a_icmp_ge cx (tgt := 66) dX3_says_7 (by decide) (fun c7 => ?_) (fun c7 => ?_)
      · have d7 := le_nI c7 (by omega) (by omega)
        obtain rfl : k = (ltr t).length := by omega
        rw [List.drop_length] at hi9
        have hr9 : say (σ.2 7) e (ltr t) p = (pk, wk) := by
          rcases hi9 with ⟨e1, e2⟩ | ⟨e1, e2⟩
          · rw [← e2, e1]; rfl
          · rw [e2, e1]
        exact (E66 τ h hm ⟨x1, by rw [hr9]; exact x2, by rw [hr9]; exact x3, x4⟩).loc (by exact ⟨rfl, rfl, rfl, trivial⟩)
      · have d7 := nle_nI c7 (by omega) (by omega)
        refine a_aload_n cx dX3_says_10 rfl ?_
        refine a_get cx fl_X3_235.g dX3_says_11 hm.o rfl ?_
        refine AW.topi x3 ?_
        refine a_if_ne cx (tgt := 66) dX3_says_14 (by decide) (fun c14 => ?_) (fun c14 => ?_)
        · have w1 : wk = true := bI_n0 c14
          have hr9 : say (σ.2 7) e (ltr t) p = (pk, wk) := by
            rcases hi9 with ⟨e1, e2⟩ | ⟨e1, e2⟩
            · rw [w1] at e1; cases e1
            · rw [e2, e1]
          exact (E66 τ h hm ⟨x1, by rw [hr9]; exact x2, by rw [hr9]; exact x3, x4⟩).loc (by exact ⟨rfl, rfl, rfl, trivial⟩)
        · have w1 : wk = false := (bI_0 _).mp c14
          have hi9 : say (σ.2 7) e ((ltr t).drop k) pk = say (σ.2 7) e (ltr t) p := by
            rcases hi9 with ⟨e1, e2⟩ | ⟨e1, e2⟩
            · exact e2
            · rw [w1] at e1; cases e1
          rw [drop_at d7] at hi9
          have hc128 : (ltr t).getD k 0 < 128 := (asc_ltr t ht).at
          refine a_aload_n cx dX3_says_17 rfl ?_
          refine a_aload_n cx dX3_says_18 rfl ?_
          refine a_iconst cx (v := 0) dX3_says_19 (by decide) ?_
          refine m_calli cx (k3_here (i := 0) (p := pk) (e := e) cx.htr x2 ((x1 12 (by decide) (by decide)).trans he) (by omega) he60 (by omega)) (lw_V q2369 q2371 qs71 q87 q2372) dn_X3_here (RN.of rfl rfl rfl rfl) rfl hm rfl rfl (Nat.le_of_ble_eq_true rfl) dX3_says_20 (Nat.zero_le _) (Nat.zero_le _) (fun h hm => ?_)
          refine AW.topi (show hr (τ.2 7) e (pk + 0) = hr (σ.2 7) e pk by rw [x4]; rfl) ?_
          refine a_aload_n cx dX3_says_23 rfl ?_
          refine a_iload_n cx dX3_says_24 rfl ?_
          refine AW.hk fun hk9 => ?_
          have hS9 := hk9.2.str ht
          obtain ⟨b9, hs9, hz9, ha9, -⟩ := id hS9
          refine c_Vp cx (j6_charAt cx.htr hS9 (asc_ltr t ht) d7) (lw_V q2383 q1650 q1651 q85 q1652) dn_J6_charAt (RN.of rfl rfl rfl rfl) rfl (by assumption) rfl rfl rfl (Nat.le_of_ble_eq_true rfl) dX3_says_25 (Nat.le_of_ble_eq_true rfl) (Nat.le_of_ble_eq_true rfl) ?_
          refine a_icmp_eq cx (tgt := 35) dX3_says_28 (by decide) (fun c28 => ?_) (fun c28 => ?_)
          · have hlt9 := hr_lt c28 hc128
            rw [say, if_pos c28] at hi9
            refine a_iconst cx (v := 0) dX3_says_35 (by decide) ?_
            refine m_put cx (i := 14) fl_X3_235 dX3_says_36 hm rfl rfl rfl (fun h hm => ?_)
            refine a_aload_n cx dX3_says_39 rfl ?_
            refine a_dup cx dX3_says_40 rfl ?_
            refine a_get cx fl_X3_225.g dX3_says_41 hm.o rfl ?_
            refine AW.topi (show _ = nI pk from x2) ?_
            refine a_aload_n cx dX3_says_44 rfl ?_
            refine a_get cx fl_X3_235.g dX3_says_45 hm.o rfl ?_
            refine a_if_eq cx (tgt := 55) dX3_says_48 (by decide) (fun c48 => ?_) (fun c48 => absurd (by rw [mv_at]; try rfl) c48)
            refine a_iconst cx (v := 1) dX3_says_55 (by decide) ?_
            refine a_iadd cx dX3_says_56 ?_
            refine AW.topi (nI_1 _) ?_
            refine m_put cx (i := 11) fl_X3_225 dX3_says_57 hm rfl rfl rfl (fun h hm => ?_)
            refine a_iincN cx dX3_says_60 rfl (Nat.le_of_ble_eq_true rfl) rfl ?_
            refine a_goto cx (tgt := 2) dX3_says_63 (by decide) ?_
            exact ih (k + 1) (pk + 1) false _ h (by omega) (by omega) (by omega) (fun q => by cases q) (Or.inl ⟨rfl, hi9⟩) hm ⟨fun k9 h1 h2 => by simp [mv, upd, h1, h2]; exact x1 k9 h1 h2, by rfl, by rfl, x4⟩
          · rw [say, if_neg c28] at hi9
            refine a_iconst cx (v := 1) dX3_says_31 (by decide) ?_
            refine a_goto cx (tgt := 36) dX3_says_32 (by decide) ?_
            refine m_put cx (i := 14) fl_X3_235 dX3_says_36 hm rfl rfl rfl (fun h hm => ?_)
            refine a_aload_n cx dX3_says_39 rfl ?_
            refine a_dup cx dX3_says_40 rfl ?_
            refine a_get cx fl_X3_225.g dX3_says_41 hm.o rfl ?_
            refine AW.topi (show _ = nI pk from x2) ?_
            refine a_aload_n cx dX3_says_44 rfl ?_
            refine a_get cx fl_X3_235.g dX3_says_45 hm.o rfl ?_
            refine a_if_eq cx (tgt := 55) dX3_says_48 (by decide) (fun c48 => absurd c48 (by rw [mv_at]; decide)) (fun c48 => ?_)
            refine a_iconst cx (v := 0) dX3_says_51 (by decide) ?_
            refine a_goto cx (tgt := 56) dX3_says_52 (by decide) ?_
            refine a_iadd cx dX3_says_56 ?_
            refine AW.topi (nI_add _ 0) ?_
            refine m_put cx (i := 11) fl_X3_225 dX3_says_57 hm rfl rfl rfl (fun h hm => ?_)
            refine a_iincN cx dX3_says_60 rfl (Nat.le_of_ble_eq_true rfl) rfl ?_
            refine a_goto cx (tgt := 2) dX3_says_63 (by decide) ?_
            exact ih (k + 1) pk true _ h (by omega) (by omega) (by omega) (fun q => by omega) (Or.inr ⟨rfl, hi9.symm⟩) hm ⟨fun k9 h1 h2 => by simp [mv, upd, h1, h2]; exact x1 k9 h1 h2, by rfl, by rfl, x4⟩
  exact loop ((ltr t).length + 1) 0 p false σ h (by omega) (by omega) hpe0 (fun q => by cases q) (Or.inl ⟨rfl, rfl⟩) hm ⟨fun _ _ _ => rfl, hp, hw0, rfl⟩
