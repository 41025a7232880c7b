/-! THE MODEL: orders -/
set_option maxRecDepth 100000
theorem RDo.of {σ τ : MS} {T : Nat → Int32} {e o t n p : Nat} {c : Int32} (hn : nArg c = n) (h : RDs (ma σ 8 (upd (σ.2 8) (4 * o) c)) τ o n (sayN T e (ltr t) n p)) : RDo σ τ o (ord1 T e c t n p) := by
  obtain ⟨x1, x2, x3, x4, x5, x6⟩ := h
  refine ⟨x1, x2, x3, fun i hi => (x4 i hi).trans (ma_ne hi), fun q hq => ?_, fun hw => ⟨?_, fun m hm => ?_⟩⟩
  · rw [x5 q (by omega), ma_at, upd_n (by omega)]
  · rw [x5 (4 * o) (by omega), ma_at, upd_s]; rfl
  · exact x6 hw m (by rw [← hn]; exact hm)
theorem RDo.pre {σ τ : MS} {o : Nat} {c : Int32} {r : Nat × Bool × Ord} (h : RDo (ma σ 8 (upd (σ.2 8) (4 * o) c)) τ o r) : RDo σ τ o r := by
  obtain ⟨x1, x2, x3, x4, x5, x6⟩ := h
  exact ⟨x1, x2, x3, fun i hi => (x4 i hi).trans (ma_ne hi), fun q hq => by rw [x5 q hq, ma_at, upd_n (by omega)], x6⟩
/-- after an order: its place is counted -/
abbrev RDq (σ σ' : MS) (o : Nat) (r : Nat × Bool × Ord) : Prop :=
  (∀ k, k ≠ 11 → k ≠ 13 → k ≠ 14 → σ'.1 k = σ.1 k) ∧ σ'.1 13 = nI (o + 1) ∧ σ'.1 11 = nI r.1 ∧ σ'.1 14 = bI r.2.1 ∧ (∀ i, i ≠ 8 → σ'.2 i = σ.2 i) ∧ (∀ q, q < 4 * o → σ'.2 8 q = σ.2 8 q) ∧ (r.2.1 = false → σ'.2 8 (4 * o) = r.2.2.1 ∧ ∀ m, m < nArg r.2.2.1 → σ'.2 8 (4 * o + 1 + m) = r.2.2.2.getD m 0)
theorem RDq.of {σ τ : MS} {o : Nat} {r : Nat × Bool × Ord} (h : RDo σ τ o r) : RDq σ (mv τ 13 (nI (o + 1))) o r := by
  obtain ⟨x1, x2, x3, x4, x5, x6⟩ := h
  exact ⟨fun k h1 h2 h3 => (mv_ne h2).trans (x1 k h1 h3), mv_at _ _ _, x2, x3, x4, x5, x6⟩
abbrev rm_X3_readsS : Room := { frames := 5, cells := 0, slots := 0, locals := 108 }
set_option maxHeartbeats 4000000 in
theorem k3_readsS {l : Launch} {g : GP} {ad : Nat → Nat} {σ : MS} (htr : l.stackTraces = false) {p e o : Nat} (hp : σ.1 11 = nI p) (he : σ.1 12 = nI e) (hp60 : p ≤ 60) (he60 : e ≤ 60) (hpe0 : p ≤ e) (hw0 : σ.1 14 = 0) (ho : σ.1 13 = nI o) (ho31 : o ≤ 31) (hs : hr (σ.2 7) e p = 115) : MK l g ad yX3_readsS cX3_readsS 2 none rm_X3_readsS σ [] (fun v σ' => v = none ∧ RDo σ σ' o (ordr (σ.2 7) e p)) := by
  refine MK.of (by decide +kernel) htr (Nat.le_of_ble_eq_true rfl) (L0 := [some (.ref (ad 0)), none]) rfl ?_
  intro M h0 h cx _ hq hm
  refine a_aload_n cx dX3_readsS_0 rfl ?_
  refine a_iconst cx (v := 1) dX3_readsS_1 (by decide) ?_
  refine m_calli cx (k3_here (i := 1) cx.htr hp he hp60 he60 (by omega)) (lw_V q2369 q2371 qs71 q87 q2372) dn_X3_here (RN.of rfl rfl rfl rfl) rfl hm rfl rfl (Nat.le_of_ble_eq_true rfl) dX3_readsS_2 (Nat.zero_le _) (Nat.zero_le _) (fun h hm => ?_)
  refine a_istore_n cx dX3_readsS_5 (Nat.le_of_ble_eq_true rfl) rfl ?_
  refine a_aload_n cx dX3_readsS_6 rfl ?_
  refine a_get cx fl_X3_31.g dX3_readsS_7 hm.o rfl ?_
  refine a_iconst cx (v := 4) dX3_readsS_10 (by decide) ?_
  refine a_aload_n cx dX3_readsS_11 rfl ?_
  refine a_get cx fl_X3_249.g dX3_readsS_12 hm.o rfl ?_
  refine AW.topi (show _ = nI o from ho) ?_
  refine a_imul cx dX3_readsS_15 ?_
  refine AW.topi (pk_mul 4 _) ?_
  refine a_iload_n cx dX3_readsS_16 rfl ?_
  refine a_bipush cx (v := 116) dX3_readsS_17 (by decide) ?_
  refine a_icmp_ne cx (tgt := 27) dX3_readsS_19 (by decide) (fun c19 => ?_) (fun c19 => ?_)
  · refine a_iload_n cx dX3_readsS_27 rfl ?_
    refine a_bipush cx (v := 101) dX3_readsS_28 (by decide) ?_
    refine a_icmp_ne cx (tgt := 38) dX3_readsS_30 (by decide) (fun c30 => ?_) (fun c30 => ?_)
    · have eO : ordr (σ.2 7) e p = ord1 (σ.2 7) e 115 2 3 p := by unfold ordr; rw [if_pos hs, if_neg (show ¬ hr (σ.2 7) e (p + 1) = 116 from c19), if_neg (show ¬ hr (σ.2 7) e (p + 1) = 101 from c30)]
      refine a_bipush cx (v := 115) dX3_readsS_38 (by decide) ?_
      refine m_iast cx (i := 7) (by decide) dX3_readsS_40 hm rfl (show _ < 240 from by omega) (fun h hm => ?_)
      refine a_iload_n cx dX3_readsS_41 rfl ?_
      refine a_bipush cx (v := 116) dX3_readsS_42 (by decide) ?_
      refine a_icmp_ne cx (tgt := 57) dX3_readsS_44 (by decide) (fun c44 => ?_) (fun c44 => absurd c44 c19)
      refine a_iload_n cx dX3_readsS_57 rfl ?_
      refine a_bipush cx (v := 101) dX3_readsS_58 (by decide) ?_
      refine a_icmp_ne cx (tgt := 74) dX3_readsS_60 (by decide) (fun c60 => ?_) (fun c60 => absurd c60 c30)
      refine a_aload_n cx dX3_readsS_74 rfl ?_
      refine a_ldcSw cx (cx.hG.str (t := 2) (by decide +kernel)) dX3_readsS_75 ?_
      refine a_iconst cx (v := 3) dX3_readsS_78 (by decide) ?_
      refine m_call cx (k3_says (σ := (ma σ 8 (upd (σ.2 8) (4 * o) 115))) (t := 2) (n := 3) (p := p) (e := e) (o := o) cx.htr hp he hp60 he60 hpe0 hw0 ho ho31 (by decide) (by decide)) (lw_V q2378 q2380 qs73 q87 q2381) dn_X3_says (RN.of rfl rfl rfl rfl) rfl hm rfl rfl (Nat.le_of_ble_eq_true rfl) dX3_readsS_79 (Nat.zero_le _) (Nat.zero_le _) (fun v9 τ h hp hm => ?_)
      obtain ⟨rfl, hx⟩ := hp
      exact a_vret cx hq dX3_readsS_82 ⟨_, ⟨rfl, by rw [eO]; exact RDo.of rfl hx⟩, hm⟩ (Nat.zero_le _) (Nat.zero_le _)
    · have h1 : hr (σ.2 7) e (p + 1) = 101 := c30
      have eO : ordr (σ.2 7) e p = ord1 (σ.2 7) e 116 9 1 p := by unfold ordr; rw [if_pos hs, if_neg (show ¬ hr (σ.2 7) e (p + 1) = 116 from c19), if_pos h1]
      refine a_bipush cx (v := 116) dX3_readsS_33 (by decide) ?_
      refine a_goto cx (tgt := 40) dX3_readsS_35 (by decide) ?_
      refine m_iast cx (i := 7) (by decide) dX3_readsS_40 hm rfl (show _ < 240 from by omega) (fun h hm => ?_)
      refine a_iload_n cx dX3_readsS_41 rfl ?_
      refine a_bipush cx (v := 116) dX3_readsS_42 (by decide) ?_
      refine a_icmp_ne cx (tgt := 57) dX3_readsS_44 (by decide) (fun c44 => ?_) (fun c44 => absurd c44 c19)
      refine a_iload_n cx dX3_readsS_57 rfl ?_
      refine a_bipush cx (v := 101) dX3_readsS_58 (by decide) ?_
      refine a_icmp_ne cx (tgt := 74) dX3_readsS_60 (by decide) (fun c60 => absurd c30 c60) (fun c60 => ?_)
      refine a_aload_n cx dX3_readsS_63 rfl ?_
      refine a_ldcSw cx (cx.hG.str (t := 9) (by decide +kernel)) dX3_readsS_64 ?_
      refine a_iconst cx (v := 1) dX3_readsS_67 (by decide) ?_
      refine m_call cx (k3_says (σ := (ma σ 8 (upd (σ.2 8) (4 * o) 116))) (t := 9) (n := 1) (p := p) (e := e) (o := o) cx.htr hp he hp60 he60 hpe0 hw0 ho ho31 (by decide) (by decide)) (lw_V q2378 q2380 qs73 q87 q2381) dn_X3_says (RN.of rfl rfl rfl rfl) rfl hm rfl rfl (Nat.le_of_ble_eq_true rfl) dX3_readsS_68 (Nat.zero_le _) (Nat.zero_le _) (fun v9 τ h hp hm => ?_)
      obtain ⟨rfl, hx⟩ := hp
      refine a_goto cx (tgt := 82) dX3_readsS_71 (by decide) ?_
      exact a_vret cx hq dX3_readsS_82 ⟨_, ⟨rfl, by rw [eO]; exact RDo.of rfl hx⟩, hm⟩ (Nat.zero_le _) (Nat.zero_le _)
  · have h1 : hr (σ.2 7) e (p + 1) = 116 := c19
    have eO : ordr (σ.2 7) e p = ord1 (σ.2 7) e 107 5 1 p := by unfold ordr; rw [if_pos hs, if_pos h1]
    refine a_bipush cx (v := 107) dX3_readsS_22 (by decide) ?_
    refine a_goto cx (tgt := 40) dX3_readsS_24 (by decide) ?_
    refine m_iast cx (i := 7) (by decide) dX3_readsS_40 hm rfl (show _ < 240 from by omega) (fun h hm => ?_)
    refine a_iload_n cx dX3_readsS_41 rfl ?_
    refine a_bipush cx (v := 116) dX3_readsS_42 (by decide) ?_
    refine a_icmp_ne cx (tgt := 57) dX3_readsS_44 (by decide) (fun c44 => absurd c19 c44) (fun c44 => ?_)
    refine a_aload_n cx dX3_readsS_47 rfl ?_
    refine a_ldcS cx (cx.hG.str (t := 5) (by decide +kernel)) dX3_readsS_48 ?_
    refine a_iconst cx (v := 1) dX3_readsS_50 (by decide) ?_
    refine m_call cx (k3_says (σ := (ma σ 8 (upd (σ.2 8) (4 * o) 107))) (t := 5) (n := 1) (p := p) (e := e) (o := o) cx.htr hp he hp60 he60 hpe0 hw0 ho ho31 (by decide) (by decide)) (lw_V q2378 q2380 qs73 q87 q2381) dn_X3_says (RN.of rfl rfl rfl rfl) rfl hm rfl rfl (Nat.le_of_ble_eq_true rfl) dX3_readsS_51 (Nat.zero_le _) (Nat.zero_le _) (fun v9 τ h hp hm => ?_)
    obtain ⟨rfl, hx⟩ := hp
    refine a_goto cx (tgt := 82) dX3_readsS_54 (by decide) ?_
    exact a_vret cx hq dX3_readsS_82 ⟨_, ⟨rfl, by rw [eO]; exact RDo.of rfl hx⟩, hm⟩ (Nat.zero_le _) (Nat.zero_le _)
abbrev rm_X3_readsOne : Room := { frames := 6, cells := 0, slots := 0, locals := 129 }
set_option maxHeartbeats 4000000 in
theorem k3_readsOne {l : Launch} {g : GP} {ad : Nat → Nat} {σ : MS} (htr : l.stackTraces = false) {p e o : Nat} (hp : σ.1 11 = nI p) (he : σ.1 12 = nI e) (hp60 : p ≤ 60) (he60 : e ≤ 60) (hpe0 : p ≤ e) (hw0 : σ.1 14 = 0) (ho : σ.1 13 = nI o) (ho31 : o ≤ 31) : MK l g ad yX3_readsOne cX3_readsOne 2 none rm_X3_readsOne σ [] (fun v σ' => v = none ∧ RDq σ σ' o (ordr (σ.2 7) e p)) := by
  refine MK.of (by decide +kernel) htr (Nat.le_of_ble_eq_true rfl) (L0 := [some (.ref (ad 0)), none]) rfl ?_
  intro M h0 h cx _ hq hm
  refine a_aload_n cx dX3_readsOne_0 rfl ?_
  refine a_iconst cx (v := 0) dX3_readsOne_1 (by decide) ?_
  refine m_calli cx (k3_here (i := 0) cx.htr hp he hp60 he60 (by omega)) (lw_V q2369 q2371 qs71 q87 q2372) dn_X3_here (RN.of rfl rfl rfl rfl) rfl hm rfl rfl (Nat.le_of_ble_eq_true rfl) dX3_readsOne_2 (Nat.zero_le _) (Nat.zero_le _) (fun h hm => ?_)
  refine AW.topi (show hr (σ.2 7) e (p + 0) = hr (σ.2 7) e p from rfl) ?_
  refine a_istore_n cx dX3_readsOne_5 (Nat.le_of_ble_eq_true rfl) rfl ?_
  refine a_aload_n cx dX3_readsOne_6 rfl ?_
  refine a_get cx fl_X3_31.g dX3_readsOne_7 hm.o rfl ?_
  refine a_iconst cx (v := 4) dX3_readsOne_10 (by decide) ?_
  refine a_aload_n cx dX3_readsOne_11 rfl ?_
  refine a_get cx fl_X3_249.g dX3_readsOne_12 hm.o rfl ?_
  refine AW.topi (show _ = nI o from ho) ?_
  refine a_imul cx dX3_readsOne_15 ?_
  refine AW.topi (pk_mul 4 _) ?_
  refine a_iload_n cx dX3_readsOne_16 rfl ?_
  refine m_iast cx (i := 7) (by decide) dX3_readsOne_17 hm rfl (show _ < 240 from by omega) (fun h hm => ?_)
  refine a_iload_n cx dX3_readsOne_18 rfl ?_
  by_cases e19_100 : (hr (σ.2 7) e p) = 100
  · refine AW.topi e19_100 ?_
    refine a_tabIn cx (tgt := 147) dX3_readsOne_19 (by decide) (by decide) rfl (by decide) ?_
    have eO : ordr (σ.2 7) e p = ord1 (σ.2 7) e 100 10 2 p := by unfold ordr; rw [e19_100]; rfl
    refine a_aload_n cx dX3_readsOne_147 rfl ?_
    refine a_ldcSw cx (cx.hG.str (t := 10) (by decide +kernel)) dX3_readsOne_148 ?_
    refine a_iconst cx (v := 2) dX3_readsOne_151 (by decide) ?_
    refine m_call cx (k3_says (σ := (ma σ 8 (upd (σ.2 8) (4 * o) (hr (σ.2 7) e p)))) (t := 10) (n := 2) (p := p) (e := e) (o := o) cx.htr hp he hp60 he60 hpe0 hw0 ho ho31 (by decide) (by decide)) (lw_V q2378 q2380 qs73 q87 q2381) dn_X3_says (RN.of rfl rfl rfl rfl) rfl hm rfl rfl (Nat.le_of_ble_eq_true rfl) dX3_readsOne_152 (Nat.zero_le _) (Nat.zero_le _) (fun v9 τ h hp hm => ?_)
    obtain ⟨rfl, hx⟩ := hp
    have hT : RDo σ τ o (ordr (σ.2 7) e p) := by rw [eO]; rw [e19_100] at hx; exact RDo.of rfl hx
    refine a_goto cx (tgt := 174) dX3_readsOne_155 (by decide) ?_
    refine a_aload_n cx dX3_readsOne_174 rfl ?_
    refine a_dup cx dX3_readsOne_175 rfl ?_
    refine a_get cx fl_X3_249.g dX3_readsOne_176 hm.o rfl ?_
    refine AW.topi (show _ = nI o from (hT.1 13 (by decide) (by decide)).trans ho) ?_
    refine a_iconst cx (v := 1) dX3_readsOne_179 (by decide) ?_
    refine a_iadd cx dX3_readsOne_180 ?_
    refine AW.topi (nI_1 _) ?_
    refine m_put cx (i := 13) fl_X3_249 dX3_readsOne_181 hm rfl rfl rfl (fun h hm => ?_)
    exact a_vret cx hq dX3_readsOne_184 ⟨_, ⟨rfl, by exact RDq.of hT⟩, hm⟩ (Nat.zero_le _) (Nat.zero_le _)
  by_cases e19_102 : (hr (σ.2 7) e p) = 102
  · refine AW.topi e19_102 ?_
    refine a_tabIn cx (tgt := 158) dX3_readsOne_19 (by decide) (by decide) rfl (by decide) ?_
    have eO : ordr (σ.2 7) e p = ord1 (σ.2 7) e 102 11 1 p := by unfold ordr; rw [e19_102]; rfl
    refine a_aload_n cx dX3_readsOne_158 rfl ?_
    refine a_ldcSw cx (cx.hG.str (t := 11) (by decide +kernel)) dX3_readsOne_159 ?_
    refine a_iconst cx (v := 1) dX3_readsOne_162 (by decide) ?_
    refine m_call cx (k3_says (σ := (ma σ 8 (upd (σ.2 8) (4 * o) (hr (σ.2 7) e p)))) (t := 11) (n := 1) (p := p) (e := e) (o := o) cx.htr hp he hp60 he60 hpe0 hw0 ho ho31 (by decide) (by decide)) (lw_V q2378 q2380 qs73 q87 q2381) dn_X3_says (RN.of rfl rfl rfl rfl) rfl hm rfl rfl (Nat.le_of_ble_eq_true rfl) dX3_readsOne_163 (Nat.zero_le _) (Nat.zero_le _) (fun v9 τ h hp hm => ?_)
    obtain ⟨rfl, hx⟩ := hp
    have hT : RDo σ τ o (ordr (σ.2 7) e p) := by rw [eO]; rw [e19_102] at hx; exact RDo.of rfl hx
    refine a_goto cx (tgt := 174) dX3_readsOne_166 (by decide) ?_
    refine a_aload_n cx dX3_readsOne_174 rfl ?_
    refine a_dup cx dX3_readsOne_175 rfl ?_
    refine a_get cx fl_X3_249.g dX3_readsOne_176 hm.o rfl ?_
    refine AW.topi (show _ = nI o from (hT.1 13 (by decide) (by decide)).trans ho) ?_
    refine a_iconst cx (v := 1) dX3_readsOne_179 (by decide) ?_
    refine a_iadd cx dX3_readsOne_180 ?_
    refine AW.topi (nI_1 _) ?_
    refine m_put cx (i := 13) fl_X3_249 dX3_readsOne_181 hm rfl rfl rfl (fun h hm => ?_)
    exact a_vret cx hq dX3_readsOne_184 ⟨_, ⟨rfl, by exact RDq.of hT⟩, hm⟩ (Nat.zero_le _) (Nat.zero_le _)
  by_cases e19_104 : (hr (σ.2 7) e p) = 104
  · refine AW.topi e19_104 ?_
    refine a_tabIn cx (tgt := 103) dX3_readsOne_19 (by decide) (by decide) rfl (by decide) ?_
    have eO : ordr (σ.2 7) e p = ord1 (σ.2 7) e 104 3 2 p := by unfold ordr; rw [e19_104]; rfl
    refine a_aload_n cx dX3_readsOne_103 rfl ?_
    refine a_ldcSw cx (cx.hG.str (t := 3) (by decide +kernel)) dX3_readsOne_104 ?_
    refine a_iconst cx (v := 2) dX3_readsOne_107 (by decide) ?_
    refine m_call cx (k3_says (σ := (ma σ 8 (upd (σ.2 8) (4 * o) (hr (σ.2 7) e p)))) (t := 3) (n := 2) (p := p) (e := e) (o := o) cx.htr hp he hp60 he60 hpe0 hw0 ho ho31 (by decide) (by decide)) (lw_V q2378 q2380 qs73 q87 q2381) dn_X3_says (RN.of rfl rfl rfl rfl) rfl hm rfl rfl (Nat.le_of_ble_eq_true rfl) dX3_readsOne_108 (Nat.zero_le _) (Nat.zero_le _) (fun v9 τ h hp hm => ?_)
    obtain ⟨rfl, hx⟩ := hp
    have hT : RDo σ τ o (ordr (σ.2 7) e p) := by rw [eO]; rw [e19_104] at hx; exact RDo.of rfl hx
    refine a_goto cx (tgt := 174) dX3_readsOne_111 (by decide) ?_
    refine a_aload_n cx dX3_readsOne_174 rfl ?_
    refine a_dup cx dX3_readsOne_175 rfl ?_
    refine a_get cx fl_X3_249.g dX3_readsOne_176 hm.o rfl ?_
    refine AW.topi (show _ = nI o from (hT.1 13 (by decide) (by decide)).trans ho) ?_
    refine a_iconst cx (v := 1) dX3_readsOne_179 (by decide) ?_
    refine a_iadd cx dX3_readsOne_180 ?_
    refine AW.topi (nI_1 _) ?_
    refine m_put cx (i := 13) fl_X3_249 dX3_readsOne_181 hm rfl rfl rfl (fun h hm => ?_)
    exact a_vret cx hq dX3_readsOne_184 ⟨_, ⟨rfl, by exact RDq.of hT⟩, hm⟩ (Nat.zero_le _) (Nat.zero_le _)
  by_cases e19_108 : (hr (σ.2 7) e p) = 108
  · refine AW.topi e19_108 ?_
    refine a_tabIn cx (tgt := 114) dX3_readsOne_19 (by decide) (by decide) rfl (by decide) ?_
    have eO : ordr (σ.2 7) e p = ord1 (σ.2 7) e 108 4 1 p := by unfold ordr; rw [e19_108]; rfl
    refine a_aload_n cx dX3_readsOne_114 rfl ?_
    refine a_ldcSw cx (cx.hG.str (t := 4) (by decide +kernel)) dX3_readsOne_115 ?_
    refine a_iconst cx (v := 1) dX3_readsOne_118 (by decide) ?_
    refine m_call cx (k3_says (σ := (ma σ 8 (upd (σ.2 8) (4 * o) (hr (σ.2 7) e p)))) (t := 4) (n := 1) (p := p) (e := e) (o := o) cx.htr hp he hp60 he60 hpe0 hw0 ho ho31 (by decide) (by decide)) (lw_V q2378 q2380 qs73 q87 q2381) dn_X3_says (RN.of rfl rfl rfl rfl) rfl hm rfl rfl (Nat.le_of_ble_eq_true rfl) dX3_readsOne_119 (Nat.zero_le _) (Nat.zero_le _) (fun v9 τ h hp hm => ?_)
    obtain ⟨rfl, hx⟩ := hp
    have hT : RDo σ τ o (ordr (σ.2 7) e p) := by rw [eO]; rw [e19_108] at hx; exact RDo.of rfl hx
    refine a_goto cx (tgt := 174) dX3_readsOne_122 (by decide) ?_
    refine a_aload_n cx dX3_readsOne_174 rfl ?_
    refine a_dup cx dX3_readsOne_175 rfl ?_
    refine a_get cx fl_X3_249.g dX3_readsOne_176 hm.o rfl ?_
    refine AW.topi (show _ = nI o from (hT.1 13 (by decide) (by decide)).trans ho) ?_
    refine a_iconst cx (v := 1) dX3_readsOne_179 (by decide) ?_
    refine a_iadd cx dX3_readsOne_180 ?_
    refine AW.topi (nI_1 _) ?_
    refine m_put cx (i := 13) fl_X3_249 dX3_readsOne_181 hm rfl rfl rfl (fun h hm => ?_)
    exact a_vret cx hq dX3_readsOne_184 ⟨_, ⟨rfl, by exact RDq.of hT⟩, hm⟩ (Nat.zero_le _) (Nat.zero_le _)
  by_cases e19_109 : (hr (σ.2 7) e p) = 109
  · refine AW.topi e19_109 ?_
    refine a_tabIn cx (tgt := 125) dX3_readsOne_19 (by decide) (by decide) rfl (by decide) ?_
    have eO : ordr (σ.2 7) e p = ord1 (σ.2 7) e 109 6 3 p := by unfold ordr; rw [e19_109]; rfl
    refine a_aload_n cx dX3_readsOne_125 rfl ?_
    refine a_ldcSw cx (cx.hG.str (t := 6) (by decide +kernel)) dX3_readsOne_126 ?_
    refine a_iconst cx (v := 3) dX3_readsOne_129 (by decide) ?_
    refine m_call cx (k3_says (σ := (ma σ 8 (upd (σ.2 8) (4 * o) (hr (σ.2 7) e p)))) (t := 6) (n := 3) (p := p) (e := e) (o := o) cx.htr hp he hp60 he60 hpe0 hw0 ho ho31 (by decide) (by decide)) (lw_V q2378 q2380 qs73 q87 q2381) dn_X3_says (RN.of rfl rfl rfl rfl) rfl hm rfl rfl (Nat.le_of_ble_eq_true rfl) dX3_readsOne_130 (Nat.zero_le _) (Nat.zero_le _) (fun v9 τ h hp hm => ?_)
    obtain ⟨rfl, hx⟩ := hp
    have hT : RDo σ τ o (ordr (σ.2 7) e p) := by rw [eO]; rw [e19_109] at hx; exact RDo.of rfl hx
    refine a_goto cx (tgt := 174) dX3_readsOne_133 (by decide) ?_
    refine a_aload_n cx dX3_readsOne_174 rfl ?_
    refine a_dup cx dX3_readsOne_175 rfl ?_
    refine a_get cx fl_X3_249.g dX3_readsOne_176 hm.o rfl ?_
    refine AW.topi (show _ = nI o from (hT.1 13 (by decide) (by decide)).trans ho) ?_
    refine a_iconst cx (v := 1) dX3_readsOne_179 (by decide) ?_
    refine a_iadd cx dX3_readsOne_180 ?_
    refine AW.topi (nI_1 _) ?_
    refine m_put cx (i := 13) fl_X3_249 dX3_readsOne_181 hm rfl rfl rfl (fun h hm => ?_)
    exact a_vret cx hq dX3_readsOne_184 ⟨_, ⟨rfl, by exact RDq.of hT⟩, hm⟩ (Nat.zero_le _) (Nat.zero_le _)
  by_cases e19_114 : (hr (σ.2 7) e p) = 114
  · refine AW.topi e19_114 ?_
    refine a_tabIn cx (tgt := 136) dX3_readsOne_19 (by decide) (by decide) rfl (by decide) ?_
    have eO : ordr (σ.2 7) e p = ord1 (σ.2 7) e 114 8 0 p := by unfold ordr; rw [e19_114]; rfl
    refine a_aload_n cx dX3_readsOne_136 rfl ?_
    refine a_ldcSw cx (cx.hG.str (t := 8) (by decide +kernel)) dX3_readsOne_137 ?_
    refine a_iconst cx (v := 0) dX3_readsOne_140 (by decide) ?_
    refine m_call cx (k3_says (σ := (ma σ 8 (upd (σ.2 8) (4 * o) (hr (σ.2 7) e p)))) (t := 8) (n := 0) (p := p) (e := e) (o := o) cx.htr hp he hp60 he60 hpe0 hw0 ho ho31 (by decide) (by decide)) (lw_V q2378 q2380 qs73 q87 q2381) dn_X3_says (RN.of rfl rfl rfl rfl) rfl hm rfl rfl (Nat.le_of_ble_eq_true rfl) dX3_readsOne_141 (Nat.zero_le _) (Nat.zero_le _) (fun v9 τ h hp hm => ?_)
    obtain ⟨rfl, hx⟩ := hp
    have hT : RDo σ τ o (ordr (σ.2 7) e p) := by rw [eO]; rw [e19_114] at hx; exact RDo.of rfl hx
    refine a_goto cx (tgt := 174) dX3_readsOne_144 (by decide) ?_
    refine a_aload_n cx dX3_readsOne_174 rfl ?_
    refine a_dup cx dX3_readsOne_175 rfl ?_
    refine a_get cx fl_X3_249.g dX3_readsOne_176 hm.o rfl ?_
    refine AW.topi (show _ = nI o from (hT.1 13 (by decide) (by decide)).trans ho) ?_
    refine a_iconst cx (v := 1) dX3_readsOne_179 (by decide) ?_
    refine a_iadd cx dX3_readsOne_180 ?_
    refine AW.topi (nI_1 _) ?_
    refine m_put cx (i := 13) fl_X3_249 dX3_readsOne_181 hm rfl rfl rfl (fun h hm => ?_)
    exact a_vret cx hq dX3_readsOne_184 ⟨_, ⟨rfl, by exact RDq.of hT⟩, hm⟩ (Nat.zero_le _) (Nat.zero_le _)
  by_cases e19_115 : (hr (σ.2 7) e p) = 115
  · refine AW.topi e19_115 ?_
    refine a_tabIn cx (tgt := 96) dX3_readsOne_19 (by decide) (by decide) rfl (by decide) ?_
    refine a_aload_n cx dX3_readsOne_96 rfl ?_
    refine m_call cx (k3_readsS (σ := (ma σ 8 (upd (σ.2 8) (4 * o) (hr (σ.2 7) e p)))) (p := p) (e := e) (o := o) cx.htr hp he hp60 he60 hpe0 hw0 ho ho31 e19_115) (lw_V q2373 q2375 qs72 q87 q2376) dn_X3_readsS (RN.of rfl rfl rfl rfl) rfl hm rfl rfl (Nat.le_of_ble_eq_true rfl) dX3_readsOne_97 (Nat.zero_le _) (Nat.zero_le _) (fun v9 τ h hp hm => ?_)
    obtain ⟨rfl, hx⟩ := hp
    have hT : RDo σ τ o (ordr (σ.2 7) e p) := hx.pre
    refine a_goto cx (tgt := 174) dX3_readsOne_100 (by decide) ?_
    refine a_aload_n cx dX3_readsOne_174 rfl ?_
    refine a_dup cx dX3_readsOne_175 rfl ?_
    refine a_get cx fl_X3_249.g dX3_readsOne_176 hm.o rfl ?_
    refine AW.topi (show _ = nI o from (hT.1 13 (by decide) (by decide)).trans ho) ?_
    refine a_iconst cx (v := 1) dX3_readsOne_179 (by decide) ?_
    refine a_iadd cx dX3_readsOne_180 ?_
    refine AW.topi (nI_1 _) ?_
    refine m_put cx (i := 13) fl_X3_249 dX3_readsOne_181 hm rfl rfl rfl (fun h hm => ?_)
    exact a_vret cx hq dX3_readsOne_184 ⟨_, ⟨rfl, by exact RDq.of hT⟩, hm⟩ (Nat.zero_le _) (Nat.zero_le _)
  refine a_tabD cx (tgt := 169) dX3_readsOne_19 (fun i hi => match i, hi with | 0, _ => Or.inr e19_100 | 1, _ => Or.inl rfl | 2, _ => Or.inr e19_102 | 3, _ => Or.inl rfl | 4, _ => Or.inr e19_104 | 5, _ => Or.inl rfl | 6, _ => Or.inl rfl | 7, _ => Or.inl rfl | 8, _ => Or.inr e19_108 | 9, _ => Or.inr e19_109 | 10, _ => Or.inl rfl | 11, _ => Or.inl rfl | 12, _ => Or.inl rfl | 13, _ => Or.inl rfl | 14, _ => Or.inr e19_114 | 15, _ => Or.inr e19_115 | i + 16, hi => absurd hi (by omega)) (by decide) ?_
  have eO : ordr (σ.2 7) e p = (p, true, (0, [])) := by unfold ordr; rw [if_neg e19_115, if_neg e19_104, if_neg e19_108, if_neg e19_109, if_neg e19_114, if_neg e19_100, if_neg e19_102]
  refine a_aload_n cx dX3_readsOne_169 rfl ?_
  refine a_iconst cx (v := 1) dX3_readsOne_170 (by decide) ?_
  refine m_put cx (i := 14) fl_X3_235 dX3_readsOne_171 hm rfl rfl rfl (fun h hm => ?_)
  have hT : RDo σ (mv (ma σ 8 (upd (σ.2 8) (4 * o) (hr (σ.2 7) e p))) 14 1) o (ordr (σ.2 7) e p) := by rw [eO]; exact ⟨fun k9 h1 h2 => by simp [mv, upd, ma, h1, h2], hp, by rfl, fun i9 h1 => ma_ne h1, fun q hq => upd_n (by omega), fun h9 => (by cases h9)⟩
  refine a_aload_n cx dX3_readsOne_174 rfl ?_
  refine a_dup cx dX3_readsOne_175 rfl ?_
  refine a_get cx fl_X3_249.g dX3_readsOne_176 hm.o rfl ?_
  refine AW.topi (show _ = nI o from (hT.1 13 (by decide) (by decide)).trans ho) ?_
  refine a_iconst cx (v := 1) dX3_readsOne_179 (by decide) ?_
  refine a_iadd cx dX3_readsOne_180 ?_
  refine AW.topi (nI_1 _) ?_
  refine m_put cx (i := 13) fl_X3_249 dX3_readsOne_181 hm rfl rfl rfl (fun h hm => ?_)
  exact a_vret cx hq dX3_readsOne_184 ⟨_, ⟨rfl, by exact RDq.of hT⟩, hm⟩ (Nat.zero_le _) (Nat.zero_le _)
abbrev rm_X3_does : Room := { frames := 7, cells := 0, slots := 0, locals := 158 }
set_option maxHeartbeats 4000000 in
theorem k3_does {l : Launch} {g : GP} {ad : Nat → Nat} {σ : MS} (htr : l.stackTraces = false) {i : Nat} (hi : i ≤ 31) (hF : WF (σ.2 1)) : MK l g ad yX3_does cX3_does 5 (some .int) rm_X3_does σ [.int (nI i)] (fun v σ' => v = some (.int (doA (σ.2 1) ((σ.2 8) (4 * i)) ((σ.2 8) (4 * i + 1)) ((σ.2 8) (4 * i + 2)) ((σ.2 8) (4 * i + 3))).1) ∧ AR σ σ' (doA (σ.2 1) ((σ.2 8) (4 * i)) ((σ.2 8) (4 * i + 1)) ((σ.2 8) (4 * i + 2)) ((σ.2 8) (4 * i + 3)))) := by
  refine MK.of (by decide +kernel) htr (Nat.le_of_ble_eq_true rfl) (L0 := [some (.ref (ad 0)), some (.int (nI i)), none, none, none]) rfl ?_
  intro M h0 h cx _ hq hm
  refine a_aload_n cx dX3_does_0 rfl ?_
  refine a_get cx fl_X3_31.g dX3_does_1 hm.o rfl ?_
  refine a_iconst cx (v := 4) dX3_does_4 (by decide) ?_
  refine a_iload_n cx dX3_does_5 rfl ?_
  refine a_imul cx dX3_does_6 ?_
  refine AW.topi (pk_mul 4 _) ?_
  refine a_iconst cx (v := 1) dX3_does_7 (by decide) ?_
  refine a_iadd cx dX3_does_8 ?_
  refine AW.topi (show _ = nI (4 * i + 1) from nI_add (4 * i) 1) ?_
  refine a_iald cx dX3_does_9 hm.a8 rfl (by omega) (by decide) ?_
  refine a_istore_n cx dX3_does_10 (Nat.le_of_ble_eq_true rfl) rfl ?_
  refine a_aload_n cx dX3_does_11 rfl ?_
  refine a_get cx fl_X3_31.g dX3_does_12 hm.o rfl ?_
  refine a_iconst cx (v := 4) dX3_does_15 (by decide) ?_
  refine a_iload_n cx dX3_does_16 rfl ?_
  refine a_imul cx dX3_does_17 ?_
  refine AW.topi (pk_mul 4 _) ?_
  refine a_iconst cx (v := 2) dX3_does_18 (by decide) ?_
  refine a_iadd cx dX3_does_19 ?_
  refine AW.topi (show _ = nI (4 * i + 2) from nI_add (4 * i) 2) ?_
  refine a_iald cx dX3_does_20 hm.a8 rfl (by omega) (by decide) ?_
  refine a_istore_n cx dX3_does_21 (Nat.le_of_ble_eq_true rfl) rfl ?_
  refine a_aload_n cx dX3_does_22 rfl ?_
  refine a_get cx fl_X3_31.g dX3_does_23 hm.o rfl ?_
  refine a_iconst cx (v := 4) dX3_does_26 (by decide) ?_
  refine a_iload_n cx dX3_does_27 rfl ?_
  refine a_imul cx dX3_does_28 ?_
  refine AW.topi (pk_mul 4 _) ?_
  refine a_iconst cx (v := 3) dX3_does_29 (by decide) ?_
  refine a_iadd cx dX3_does_30 ?_
  refine AW.topi (show _ = nI (4 * i + 3) from nI_add (4 * i) 3) ?_
  refine a_iald cx dX3_does_31 hm.a8 rfl (by omega) (by decide) ?_
  refine a_istore cx dX3_does_32 (Nat.le_of_ble_eq_true rfl) rfl ?_
  refine a_aload_n cx dX3_does_34 rfl ?_
  refine a_get cx fl_X3_31.g dX3_does_35 hm.o rfl ?_
  refine a_iconst cx (v := 4) dX3_does_38 (by decide) ?_
  refine a_iload_n cx dX3_does_39 rfl ?_
  refine a_imul cx dX3_does_40 ?_
  refine AW.topi (pk_mul 4 _) ?_
  refine a_iald cx dX3_does_41 hm.a8 rfl (by omega) (by decide) ?_
  by_cases e42_100 : (σ.2 8) (4 * i) = 100
  · refine AW.topi e42_100 ?_
    refine a_tabIn cx (tgt := 172) dX3_does_42 (by decide) (by decide) rfl (by decide) ?_
    have eD : doA (σ.2 1) ((σ.2 8) (4 * i)) ((σ.2 8) (4 * i + 1)) ((σ.2 8) (4 * i + 2)) ((σ.2 8) (4 * i + 3)) = sendsA (σ.2 1) ((σ.2 8) (4 * i + 1)) ((σ.2 8) (4 * i + 2)) := by unfold doA; rw [e42_100]; rfl
    refine a_aload_n cx dX3_does_172 rfl ?_
    refine a_iload_n cx dX3_does_173 rfl ?_
    refine a_iload_n cx dX3_does_174 rfl ?_
    refine m_call cx (k3_sends cx.htr hF.1) (lw_V q2281 q2283 qs63 q87 q2284) dn_X3_sends (RN.of rfl rfl rfl rfl) rfl hm rfl rfl (Nat.le_of_ble_eq_true rfl) dX3_does_175 (Nat.zero_le _) (Nat.zero_le _) (fun v9 τ h hp hm => ?_)
    obtain ⟨rfl, hx⟩ := hp
    exact a_iret cx hq dX3_does_178 ⟨_, ⟨by rw [eD], by rw [eD]; exact hx⟩, hm⟩ (Nat.zero_le _) (Nat.zero_le _)
  by_cases e42_104 : (σ.2 8) (4 * i) = 104
  · refine AW.topi e42_104 ?_
    refine a_tabIn cx (tgt := 145) dX3_does_42 (by decide) (by decide) rfl (by decide) ?_
    have eD : doA (σ.2 1) ((σ.2 8) (4 * i)) ((σ.2 8) (4 * i + 1)) ((σ.2 8) (4 * i + 2)) ((σ.2 8) (4 * i + 3)) = setsA (σ.2 1) ((σ.2 8) (4 * i + 1)) ((σ.2 8) (4 * i + 2)) := by unfold doA; rw [e42_104]; rfl
    refine a_aload_n cx dX3_does_145 rfl ?_
    refine a_iload_n cx dX3_does_146 rfl ?_
    refine a_iload_n cx dX3_does_147 rfl ?_
    refine m_call cx (k3_sets cx.htr hF.1) (lw_V q2105 q2107 qs36 q87 q2108) dn_X3_sets (RN.of rfl rfl rfl rfl) rfl hm rfl rfl (Nat.le_of_ble_eq_true rfl) dX3_does_148 (Nat.zero_le _) (Nat.zero_le _) (fun v9 τ h hp hm => ?_)
    obtain ⟨rfl, hx⟩ := hp
    exact a_iret cx hq dX3_does_151 ⟨_, ⟨by rw [eD], by rw [eD]; exact hx⟩, hm⟩ (Nat.zero_le _) (Nat.zero_le _)
  by_cases e42_107 : (σ.2 8) (4 * i) = 107
  · refine AW.topi e42_107 ?_
    refine a_tabIn cx (tgt := 133) dX3_does_42 (by decide) (by decide) rfl (by decide) ?_
    have eD : doA (σ.2 1) ((σ.2 8) (4 * i)) ((σ.2 8) (4 * i + 1)) ((σ.2 8) (4 * i + 2)) ((σ.2 8) (4 * i + 3)) = strikesA (σ.2 1) ((σ.2 8) (4 * i + 1)) := by unfold doA; rw [e42_107]; rfl
    refine a_aload_n cx dX3_does_133 rfl ?_
    refine a_iload_n cx dX3_does_134 rfl ?_
    refine m_call cx (k3_strikes cx.htr hF.1) (lw_V q2129 q2131 qs40 q87 q2132) dn_X3_strikes (RN.of rfl rfl rfl rfl) rfl hm rfl rfl (Nat.le_of_ble_eq_true rfl) dX3_does_135 (Nat.zero_le _) (Nat.zero_le _) (fun v9 τ h hp hm => ?_)
    obtain ⟨rfl, hx⟩ := hp
    exact a_iret cx hq dX3_does_138 ⟨_, ⟨by rw [eD], by rw [eD]; exact hx⟩, hm⟩ (Nat.zero_le _) (Nat.zero_le _)
  by_cases e42_108 : (σ.2 8) (4 * i) = 108
  · refine AW.topi e42_108 ?_
    refine a_tabIn cx (tgt := 152) dX3_does_42 (by decide) (by decide) rfl (by decide) ?_
    have eD : doA (σ.2 1) ((σ.2 8) (4 * i)) ((σ.2 8) (4 * i + 1)) ((σ.2 8) (4 * i + 2)) ((σ.2 8) (4 * i + 3)) = goesA (σ.2 1) ((σ.2 8) (4 * i + 1)) := by unfold doA; rw [e42_108]; rfl
    refine a_aload_n cx dX3_does_152 rfl ?_
    refine a_iload_n cx dX3_does_153 rfl ?_
    refine m_call cx (k3_goes cx.htr hF.1) (lw_V q2117 q2119 qs38 q87 q2120) dn_X3_goes (RN.of rfl rfl rfl rfl) rfl hm rfl rfl (Nat.le_of_ble_eq_true rfl) dX3_does_154 (Nat.zero_le _) (Nat.zero_le _) (fun v9 τ h hp hm => ?_)
    obtain ⟨rfl, hx⟩ := hp
    exact a_iret cx hq dX3_does_157 ⟨_, ⟨by rw [eD], by rw [eD]; exact hx⟩, hm⟩ (Nat.zero_le _) (Nat.zero_le _)
  by_cases e42_109 : (σ.2 8) (4 * i) = 109
  · refine AW.topi e42_109 ?_
    refine a_tabIn cx (tgt := 158) dX3_does_42 (by decide) (by decide) rfl (by decide) ?_
    have eD : doA (σ.2 1) ((σ.2 8) (4 * i)) ((σ.2 8) (4 * i + 1)) ((σ.2 8) (4 * i + 2)) ((σ.2 8) (4 * i + 3)) = movesA (σ.2 1) ((σ.2 8) (4 * i + 1)) ((σ.2 8) (4 * i + 2)) ((σ.2 8) (4 * i + 3)) := by unfold doA; rw [e42_109]; rfl
    refine a_aload_n cx dX3_does_158 rfl ?_
    refine a_iload_n cx dX3_does_159 rfl ?_
    refine a_iload_n cx dX3_does_160 rfl ?_
    refine a_iload cx dX3_does_161 rfl ?_
    refine m_call cx (k3_moves cx.htr hF.1) (lw_V q2145 q2147 qs43 q87 q2148) dn_X3_moves (RN.of rfl rfl rfl rfl) rfl hm rfl rfl (Nat.le_of_ble_eq_true rfl) dX3_does_163 (Nat.zero_le _) (Nat.zero_le _) (fun v9 τ h hp hm => ?_)
    obtain ⟨rfl, hx⟩ := hp
    exact a_iret cx hq dX3_does_166 ⟨_, ⟨by rw [eD], by rw [eD]; exact hx⟩, hm⟩ (Nat.zero_le _) (Nat.zero_le _)
  by_cases e42_114 : (σ.2 8) (4 * i) = 114
  · refine AW.topi e42_114 ?_
    refine a_tabIn cx (tgt := 167) dX3_does_42 (by decide) (by decide) rfl (by decide) ?_
    have eD : doA (σ.2 1) ((σ.2 8) (4 * i)) ((σ.2 8) (4 * i + 1)) ((σ.2 8) (4 * i + 2)) ((σ.2 8) (4 * i + 3)) = roundsA (σ.2 1) := by unfold doA; rw [e42_114]; rfl
    refine a_aload_n cx dX3_does_167 rfl ?_
    refine m_call cx (k3_rounds cx.htr hF) (lw_V q2197 q2199 qs52 q87 q2200) dn_X3_rounds (RN.of rfl rfl rfl rfl) rfl hm rfl rfl (Nat.le_of_ble_eq_true rfl) dX3_does_168 (Nat.zero_le _) (Nat.zero_le _) (fun v9 τ h hp hm => ?_)
    obtain ⟨rfl, hx⟩ := hp
    exact a_iret cx hq dX3_does_171 ⟨_, ⟨by rw [eD], by rw [eD]; exact hx⟩, hm⟩ (Nat.zero_le _) (Nat.zero_le _)
  by_cases e42_115 : (σ.2 8) (4 * i) = 115
  · refine AW.topi e42_115 ?_
    refine a_tabIn cx (tgt := 124) dX3_does_42 (by decide) (by decide) rfl (by decide) ?_
    have eD : doA (σ.2 1) ((σ.2 8) (4 * i)) ((σ.2 8) (4 * i + 1)) ((σ.2 8) (4 * i + 2)) ((σ.2 8) (4 * i + 3)) = comesA (σ.2 1) ((σ.2 8) (4 * i + 1)) ((σ.2 8) (4 * i + 2)) ((σ.2 8) (4 * i + 3)) := by unfold doA; rw [e42_115]; rfl
    refine a_aload_n cx dX3_does_124 rfl ?_
    refine a_iload_n cx dX3_does_125 rfl ?_
    refine a_iload_n cx dX3_does_126 rfl ?_
    refine a_iload cx dX3_does_127 rfl ?_
    refine m_call cx (k3_comes cx.htr hF.1) (lw_V q2060 q2062 qs28 q87 q2063) dn_X3_comes (RN.of rfl rfl rfl rfl) rfl hm rfl rfl (Nat.le_of_ble_eq_true rfl) dX3_does_129 (Nat.zero_le _) (Nat.zero_le _) (fun v9 τ h hp hm => ?_)
    obtain ⟨rfl, hx⟩ := hp
    exact a_iret cx hq dX3_does_132 ⟨_, ⟨by rw [eD], by rw [eD]; exact hx⟩, hm⟩ (Nat.zero_le _) (Nat.zero_le _)
  by_cases e42_116 : (σ.2 8) (4 * i) = 116
  · refine AW.topi e42_116 ?_
    refine a_tabIn cx (tgt := 139) dX3_does_42 (by decide) (by decide) rfl (by decide) ?_
    have eD : doA (σ.2 1) ((σ.2 8) (4 * i)) ((σ.2 8) (4 * i + 1)) ((σ.2 8) (4 * i + 2)) ((σ.2 8) (4 * i + 3)) = settlesA (σ.2 1) ((σ.2 8) (4 * i + 1)) := by unfold doA; rw [e42_116]; rfl
    refine a_aload_n cx dX3_does_139 rfl ?_
    refine a_iload_n cx dX3_does_140 rfl ?_
    refine m_call cx (k3_settles cx.htr hF) (lw_V q2221 q2223 qs57 q87 q2224) dn_X3_settles (RN.of rfl rfl rfl rfl) rfl hm rfl rfl (Nat.le_of_ble_eq_true rfl) dX3_does_141 (Nat.zero_le _) (Nat.zero_le _) (fun v9 τ h hp hm => ?_)
    obtain ⟨rfl, hx⟩ := hp
    exact a_iret cx hq dX3_does_144 ⟨_, ⟨by rw [eD], by rw [eD]; exact hx⟩, hm⟩ (Nat.zero_le _) (Nat.zero_le _)
  refine a_tabD cx (tgt := 179) dX3_does_42 (fun i hi => match i, hi with | 0, _ => Or.inr e42_100 | 1, _ => Or.inl rfl | 2, _ => Or.inl rfl | 3, _ => Or.inl rfl | 4, _ => Or.inr e42_104 | 5, _ => Or.inl rfl | 6, _ => Or.inl rfl | 7, _ => Or.inr e42_107 | 8, _ => Or.inr e42_108 | 9, _ => Or.inr e42_109 | 10, _ => Or.inl rfl | 11, _ => Or.inl rfl | 12, _ => Or.inl rfl | 13, _ => Or.inl rfl | 14, _ => Or.inr e42_114 | 15, _ => Or.inr e42_115 | 16, _ => Or.inr e42_116 | i + 17, hi => absurd hi (by omega)) (by decide) ?_
  have eD : doA (σ.2 1) ((σ.2 8) (4 * i)) ((σ.2 8) (4 * i + 1)) ((σ.2 8) (4 * i + 2)) ((σ.2 8) (4 * i + 3)) = fetchesA (σ.2 1) ((σ.2 8) (4 * i + 1)) := by unfold doA; rw [if_neg e42_115, if_neg e42_104, if_neg e42_108, if_neg e42_107, if_neg e42_109, if_neg e42_114, if_neg e42_116, if_neg e42_100]
  refine a_aload_n cx dX3_does_179 rfl ?_
  refine a_iload_n cx dX3_does_180 rfl ?_
  refine m_call cx (k3_fetches cx.htr hF.1 hF.2.1) (lw_V q2289 q2291 qs64 q87 q2292) dn_X3_fetches (RN.of rfl rfl rfl rfl) rfl hm rfl rfl (Nat.le_of_ble_eq_true rfl) dX3_does_181 (Nat.zero_le _) (Nat.zero_le _) (fun v9 τ h hp hm => ?_)
  obtain ⟨rfl, hx⟩ := hp
  exact a_iret cx hq dX3_does_184 ⟨_, ⟨by rw [eD], by rw [eD]; exact hx⟩, hm⟩ (Nat.zero_le _) (Nat.zero_le _)
