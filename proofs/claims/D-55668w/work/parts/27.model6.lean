/-! THE MODEL: changing calls -/
set_option maxRecDepth 100000
theorem mv_mv_self (σ : MS) (k : Nat) (x : Int32) : mv (mv σ k x) k (σ.1 k) = σ := by
  refine Prod.ext (funext fun j => ?_) rfl
  by_cases h : j = k
  · subst h; exact mv_at _ _ _
  · rw [mv_ne h, mv_ne h]
abbrev rm_X3_changed : Room := { frames := 0, cells := 0, slots := 0, locals := 0 }
set_option maxHeartbeats 4000000 in
theorem k3_changed {l : Launch} {g : GP} {ad : Nat → Nat} {σ : MS} (htr : l.stackTraces = false) {S : ST} {u : Int32} (hR : RM S σ) (hl8 : S.hist.length ≤ 8) : MK l g ad yX3_changed cX3_changed 3 (some .int) rm_X3_changed σ [.int u] (fun v σ' => v = some (.int u) ∧ (∀ k, k ≠ 1 → σ'.1 k = σ.1 k) ∧ RM (S.wHist (hp S.hist (σ.2 2))) σ') := by
  refine MK.of (by decide +kernel) htr (Nat.le_of_ble_eq_true rfl) (L0 := [some (.ref (ad 0)), some (.int u), none]) rfl ?_
  intro M h0 h cx _ hq hm
  have J : ∀ (l : List SF) (τ : MS) (h : AH), hp S.hist (σ.2 2) = l ++ [σ.2 2] → l.length ≤ 7 → RM (S.wHist l) (mv τ 1 (nI l.length)) → τ.1 1 = nI (l.length + 1) → (∀ k, k ≠ 1 → τ.1 k = σ.1 k) → τ.2 2 = σ.2 2 → MSt g ad h0 τ h → AW g M 0 0 52 [some (.ref (ad 0)), some (.int u), none] [] h := by
    intro l τ h hl hl7 hT hk1 hko hf2 hm
    refine a_iconst cx (v := 0) dX3_changed_52 (by decide) ?_
    refine a_istore_n cx dX3_changed_53 (Nat.le_of_ble_eq_true rfl) rfl ?_
    have loop2 : ∀ (j k : Nat) (h : AH), k ≤ 93 → 93 < k + j → MSt g ad h0 (ma τ 4 (cpo (τ.2 4) (93 * l.length) (τ.2 2) k)) h → AW g M 0 0 54 [some (.ref (ad 0)), some (.int u), some (.int (nI k))] [] h := by
      intro j
      induction j with
      | zero => intro k h h1 h2; omega
      | succ j ih2 =>
        intro k h h1 h2 hm
        refine a_iload_n cx dX3_changed_54 rfl ?_
        refine a_bipush cx (v := 93) dX3_changed_55 (by decide) ?_
        refine a_icmp_ge cx (tgt := 88) dX3_changed_57 (by decide) (fun c57 => ?_) (fun c57 => ?_)
        · have d57 := le_nI (a := 93) c57 (by omega) (by omega)
          have e57 : k = 93 := by omega
          subst e57
          refine a_iload_n cx dX3_changed_88 rfl ?_
          exact a_iret cx hq dX3_changed_89 ⟨_, ⟨rfl, by exact ⟨fun k hk => hko k hk, by rw [hl]; exact hT.push (σ := ma τ 4 (cpo (τ.2 4) (93 * l.length) (τ.2 2) 93)) hk1 (fun k hk => (mv_ne hk).symm) (fun i hi => ma_ne hi) (by rw [ma_at, hf2]; rfl)⟩⟩, hm⟩ (Nat.zero_le _) (Nat.zero_le _)
        · have d57 := nle_nI (a := 93) c57 (by omega) (by omega)
          refine a_aload_n cx dX3_changed_60 rfl ?_
          refine a_get cx fl_X3_19.g dX3_changed_61 hm.o rfl ?_
          refine a_bipush cx (v := 93) dX3_changed_64 (by decide) ?_
          refine a_aload_n cx dX3_changed_66 rfl ?_
          refine a_get cx fl_X3_56.g dX3_changed_67 hm.o rfl ?_
          refine AW.topi hk1 ?_
          refine a_iconst cx (v := 1) dX3_changed_70 (by decide) ?_
          refine a_isub cx dX3_changed_71 ?_
          refine AW.topi (nI_p (by omega) (by omega)) ?_
          refine a_imul cx dX3_changed_72 ?_
          refine AW.topi (show (93 : Int32) * nI (l.length + 1 - 1) = nI (93 * l.length) from pk_mul _ _) ?_
          refine a_iload_n cx dX3_changed_73 rfl ?_
          refine a_iadd cx dX3_changed_74 ?_
          refine AW.topi (nI_add _ _) ?_
          refine a_aload_n cx dX3_changed_75 rfl ?_
          refine a_get cx fl_X3_13.g dX3_changed_76 hm.o rfl ?_
          refine a_iload_n cx dX3_changed_79 rfl ?_
          refine a_iald cx dX3_changed_80 hm.a2 rfl (by omega) (by decide) ?_
          refine m_iast cx (i := 3) (by decide) dX3_changed_81 hm rfl (show _ < 744 from by omega) (fun h hm => ?_)
          refine a_iincN cx dX3_changed_82 rfl (Nat.le_of_ble_eq_true rfl) rfl ?_
          refine a_goto cx (tgt := 54) dX3_changed_85 (by decide) ?_
          exact ih2 (k + 1) h (by omega) (by omega) (hm.eq (by rw [ma_ma]; exact congrArg _ (cpo_s _ _ _ k)))
    exact loop2 (93 + 1) 0 h (by omega) (by omega) (hm.eq (by rw [cpo_0, ma_self]))
  refine a_aload_n cx dX3_changed_0 rfl ?_
  refine a_get cx fl_X3_56.g dX3_changed_1 hm.o rfl ?_
  refine a_bipush cx (v := 8) dX3_changed_4 (by decide) ?_
  refine a_icmp_ne cx (tgt := 42) dX3_changed_6 (by decide) (fun c6 => ?_) (fun c6 => ?_)
  · have hl9 : S.hist.length ≠ 8 := fun q => c6 (by show σ.1 1 = 8; rw [hR.kept, q]; rfl)
    refine a_aload_n cx dX3_changed_42 rfl ?_
    refine a_dup cx dX3_changed_43 rfl ?_
    refine a_get cx fl_X3_56.g dX3_changed_44 hm.o rfl ?_
    refine a_iconst cx (v := 1) dX3_changed_47 (by decide) ?_
    refine a_iadd cx dX3_changed_48 ?_
    refine m_put cx (i := 1) fl_X3_56 dX3_changed_49 hm rfl rfl rfl (fun h hm => ?_)
    exact J S.hist (mv σ 1 (σ.1 1 + 1)) h (by unfold hp; rw [if_neg hl9]) (by omega) (by rw [← hR.kept, mv_mv_self]; exact hR) (by rw [mv_at, hR.kept]; exact nI_1 _) (fun k hk => mv_ne hk) rfl hm
  · have hl9 : S.hist.length = 8 := nI_inj (by omega) (by decide) (by rw [← hR.kept]; exact c6)
    refine a_iconst cx (v := 0) dX3_changed_9 (by decide) ?_
    refine a_istore_n cx dX3_changed_10 (Nat.le_of_ble_eq_true rfl) rfl ?_
    have loop1 : ∀ (j k : Nat) (h : AH), k ≤ 651 → 651 < k + j → MSt g ad h0 (ma σ 4 (shf (σ.2 4) k)) h → AW g M 0 0 11 [some (.ref (ad 0)), some (.int u), some (.int (nI k))] [] h := by
      intro j
      induction j with
      | zero => intro k h h1 h2; omega
      | succ j ih =>
        intro k h h1 h2 hm
        refine a_iload_n cx dX3_changed_11 rfl ?_
        refine a_sipush cx (v := 651) dX3_changed_12 (by decide) ?_
        refine a_icmp_ge cx (tgt := 39) dX3_changed_15 (by decide) (fun c15 => ?_) (fun c15 => ?_)
        · have d15 := le_nI (a := 651) c15 (by omega) (by omega)
          have e15 : k = 651 := by omega
          subst e15
          refine a_goto cx (tgt := 52) dX3_changed_39 (by decide) ?_
          exact (J (S.hist.drop 1) (ma σ 4 (shf (σ.2 4) 651)) h (by unfold hp; rw [if_pos hl9]) (by rw [List.length_drop]; omega) (by rw [show (S.hist.drop 1).length = 7 by rw [List.length_drop, hl9]]; exact hR.shift hl9 (fun _ _ => rfl) (fun i hi => ma_ne hi) (ma_at _ _ _)) (by rw [show (S.hist.drop 1).length = 7 by rw [List.length_drop, hl9]]; exact hR.kept.trans (by rw [hl9])) (fun _ _ => rfl) rfl hm).loc (by exact ⟨rfl, rfl, trivial⟩)
        · have d15 := nle_nI (a := 651) c15 (by omega) (by omega)
          refine a_aload_n cx dX3_changed_18 rfl ?_
          refine a_get cx fl_X3_19.g dX3_changed_19 hm.o rfl ?_
          refine a_iload_n cx dX3_changed_22 rfl ?_
          refine a_aload_n cx dX3_changed_23 rfl ?_
          refine a_get cx fl_X3_19.g dX3_changed_24 hm.o rfl ?_
          refine a_iload_n cx dX3_changed_27 rfl ?_
          refine a_bipush cx (v := 93) dX3_changed_28 (by decide) ?_
          refine a_iadd cx dX3_changed_30 ?_
          refine a_iald cx dX3_changed_31 hm.a4 (ix7 _) (by omega) (by decide) ?_
          refine m_iast cx (i := 3) (by decide) dX3_changed_32 hm rfl (show _ < 744 from by omega) (fun h hm => ?_)
          refine a_iincN cx dX3_changed_33 rfl (Nat.le_of_ble_eq_true rfl) rfl ?_
          refine a_goto cx (tgt := 11) dX3_changed_36 (by decide) ?_
          exact ih (k + 1) h (by omega) (by omega) (hm.eq (by rw [ma_ma]; exact congrArg _ (shf_s _ k)))
    exact loop1 (651 + 1) 0 h (by omega) (by omega) (hm.eq (by rw [shf_0, ma_self]))
abbrev rm_X3_ends : Room := { frames := 1, cells := 0, slots := 0, locals := 22 }
set_option maxHeartbeats 4000000 in
theorem k3_ends {l : Launch} {g : GP} {ad : Nat → Nat} {σ : MS} (htr : l.stackTraces = false) {S : ST} {f : SF} {r c : Int32} (hR : RM S σ) (hf : σ.2 2 = f) (hl8 : S.hist.length ≤ 8) : MK l g ad yX3_ends cX3_ends 3 (some .int) rm_X3_ends σ [.int r, .int c] (fun v σ' => EN S σ f r c v σ') := by
  refine MK.of (by decide +kernel) htr (Nat.le_of_ble_eq_true rfl) (L0 := [some (.ref (ad 0)), some (.int r), some (.int c)]) rfl ?_
  intro M h0 h cx _ hq hm
  refine a_iload_n cx dX3_ends_0 rfl ?_
  refine a_if_ne cx (tgt := 13) dX3_ends_1 (by decide) (fun c1 => ?_) (fun c1 => ?_)
  · refine a_iload_n cx dX3_ends_13 rfl ?_
    refine a_if_ge cx (tgt := 24) dX3_ends_14 (by decide) (fun c14 => ?_) (fun c14 => ?_)
    · have e14 : ¬ r < 0 := Int32.not_lt.mpr c14
      refine a_aload_n cx dX3_ends_24 rfl ?_
      refine a_iload_n cx dX3_ends_25 rfl ?_
      refine m_put cx (i := 7) fl_X3_72 dX3_ends_26 hm rfl rfl rfl (fun h hm => ?_)
      refine a_aload_n cx dX3_ends_29 rfl ?_
      refine a_aload_n cx dX3_ends_30 rfl ?_
      refine a_get cx fl_X3_59.g dX3_ends_31 hm.o rfl ?_
      refine m_put cx (i := 8) fl_X3_75 dX3_ends_34 hm rfl rfl rfl (fun h hm => ?_)
      refine a_aload_n cx dX3_ends_37 rfl ?_
      refine a_iload_n cx dX3_ends_38 rfl ?_
      refine m_calli cx (k3_fails cx.htr) (lw_V q2097 q2099 qs35 q87 q2100) dn_X3_fails (RN.of rfl rfl rfl rfl) rfl hm rfl rfl (Nat.le_of_ble_eq_true rfl) dX3_ends_39 (Nat.zero_le _) (Nat.zero_le _) (fun h hm => ?_)
      exact a_iret cx hq dX3_ends_42 ⟨_, ⟨by rw [if_neg c1], ⟨by rw [if_neg c1, if_neg e14]; exact mv_at _ _ _, by rw [if_neg c1, if_neg e14]; exact (hR.ref _ _).v (Or.inl rfl)⟩⟩, hm⟩ (Nat.zero_le _) (Nat.zero_le _)
    · have e14 : r < 0 := Int32.not_le.mp c14
      refine a_aload_n cx dX3_ends_17 rfl ?_
      refine a_iload_n cx dX3_ends_18 rfl ?_
      refine a_ineg cx dX3_ends_19 ?_
      refine m_calli cx (k3_fails cx.htr) (lw_V q2097 q2099 qs35 q87 q2100) dn_X3_fails (RN.of rfl rfl rfl rfl) rfl hm rfl rfl (Nat.le_of_ble_eq_true rfl) dX3_ends_20 (Nat.zero_le _) (Nat.zero_le _) (fun h hm => ?_)
      exact a_iret cx hq dX3_ends_23 ⟨_, ⟨by rw [if_neg c1], ⟨by rw [if_neg c1, if_pos e14]; exact mv_at _ _ _, by rw [if_neg c1, if_pos e14]; exact hR.v (Or.inl rfl)⟩⟩, hm⟩ (Nat.zero_le _) (Nat.zero_le _)
  · refine a_aload_n cx dX3_ends_4 rfl ?_
    refine a_aload_n cx dX3_ends_5 rfl ?_
    refine a_get cx fl_X3_62.g dX3_ends_6 hm.o rfl ?_
    refine m_call cx (k3_changed cx.htr hR hl8) (lw_V q2093 q2095 qs34 q87 q2096) dn_X3_changed (RN.of rfl rfl rfl rfl) rfl hm rfl rfl (Nat.le_of_ble_eq_true rfl) dX3_ends_9 (Nat.zero_le _) (Nat.zero_le _) (fun v9 τ h hp hm => ?_)
    obtain ⟨rfl, ht, hT⟩ := hp
    exact a_iret cx hq dX3_ends_12 ⟨_, ⟨by rw [if_pos c1], ⟨by rw [if_pos c1]; exact ht 0 (by decide), by rw [if_pos c1, ← hf]; exact hT⟩⟩, hm⟩ (Nat.zero_le _) (Nat.zero_le _)
abbrev rm_X3_sheep : Room := { frames := 4, cells := 0, slots := 0, locals := 91 }
set_option maxHeartbeats 4000000 in
theorem k3_sheep {l : Launch} {g : GP} {ad : Nat → Nat} {σ : MS} (htr : l.stackTraces = false) {S : ST} {x y w : Int32} (hR : RM S σ) (hF : WF (σ.2 1)) (hl8 : S.hist.length ≤ 8) : MK l g ad yX3_sheep cX3_sheep 4 (some .int) rm_X3_sheep σ [.int x, .int y, .int w] (fun v σ' => MU S (comesA (σ.2 1) x y w) 2 v σ') := by
  refine MK.of (by decide +kernel) htr (Nat.le_of_ble_eq_true rfl) (L0 := [some (.ref (ad 0)), some (.int x), some (.int y), some (.int w)]) rfl ?_
  intro M h0 h cx _ hq hm
  refine a_aload_n cx dX3_sheep_0 rfl ?_
  refine m_callv cx (k3_remembers cx.htr) (lw_V q2056 q2058 qs27 q87 q2059) dn_X3_remembers (RN.of rfl rfl rfl rfl) rfl hm rfl rfl (Nat.le_of_ble_eq_true rfl) dX3_sheep_1 (Nat.zero_le _) (Nat.zero_le _) (fun h hm => ?_)
  refine a_aload_n cx dX3_sheep_4 rfl ?_
  refine a_aload_n cx dX3_sheep_5 rfl ?_
  refine a_iload_n cx dX3_sheep_6 rfl ?_
  refine a_iload_n cx dX3_sheep_7 rfl ?_
  refine a_iload_n cx dX3_sheep_8 rfl ?_
  refine m_call cx (k3_comes (σ := ma (mv σ 0 0) 2 (σ.2 1)) cx.htr hF.1) (lw_V q2060 q2062 qs28 q87 q2063) dn_X3_comes (RN.of rfl rfl rfl rfl) rfl hm rfl rfl (Nat.le_of_ble_eq_true rfl) dX3_sheep_9 (Nat.zero_le _) (Nat.zero_le _) (fun v9 τ h hp hm => ?_)
  obtain ⟨rfl, hx⟩ := hp
  have hT : RM (S.wRow (comesA (σ.2 1) x y w).2.2) τ := ((hR.v (k := 0) (x := 0) (Or.inl rfl)).a (i := 2) (f := σ.2 1) (by decide)).ar hx
  have h2 : τ.2 2 = S.row := (hx.2.1 2 (by decide) (by decide)).trans hR.row
  refine a_iconst cx (v := 2) dX3_sheep_12 (by decide) ?_
  refine m_call cx (k3_ends cx.htr hT h2 hl8) (lw_V q2089 q2091 qs33 q87 q2092) dn_X3_ends (RN.of rfl rfl rfl rfl) rfl hm rfl rfl (Nat.le_of_ble_eq_true rfl) dX3_sheep_13 (Nat.zero_le _) (Nat.zero_le _) (fun v9 υ h hp hm => ?_)
  obtain ⟨rfl, hE⟩ := hp
  have hZ := MU.of (σ := ma (mv σ 0 0) 2 (σ.2 1)) hx rfl ⟨rfl, hE⟩
  exact a_iret cx hq dX3_sheep_16 ⟨_, ⟨by exact hZ.1, by exact hZ.2⟩, hm⟩ (Nat.zero_le _) (Nat.zero_le _)
abbrev rm_X3_hut : Room := { frames := 3, cells := 0, slots := 0, locals := 66 }
set_option maxHeartbeats 4000000 in
theorem k3_hut {l : Launch} {g : GP} {ad : Nat → Nat} {σ : MS} (htr : l.stackTraces = false) {S : ST} {x y : Int32} (hR : RM S σ) (hF : WF (σ.2 1)) (hl8 : S.hist.length ≤ 8) : MK l g ad yX3_hut cX3_hut 3 (some .int) rm_X3_hut σ [.int x, .int y] (fun v σ' => MU S (setsA (σ.2 1) x y) 2 v σ') := by
  refine MK.of (by decide +kernel) htr (Nat.le_of_ble_eq_true rfl) (L0 := [some (.ref (ad 0)), some (.int x), some (.int y)]) rfl ?_
  intro M h0 h cx _ hq hm
  refine a_aload_n cx dX3_hut_0 rfl ?_
  refine m_callv cx (k3_remembers cx.htr) (lw_V q2056 q2058 qs27 q87 q2059) dn_X3_remembers (RN.of rfl rfl rfl rfl) rfl hm rfl rfl (Nat.le_of_ble_eq_true rfl) dX3_hut_1 (Nat.zero_le _) (Nat.zero_le _) (fun h hm => ?_)
  refine a_aload_n cx dX3_hut_4 rfl ?_
  refine a_aload_n cx dX3_hut_5 rfl ?_
  refine a_iload_n cx dX3_hut_6 rfl ?_
  refine a_iload_n cx dX3_hut_7 rfl ?_
  refine m_call cx (k3_sets (σ := ma (mv σ 0 0) 2 (σ.2 1)) cx.htr hF.1) (lw_V q2105 q2107 qs36 q87 q2108) dn_X3_sets (RN.of rfl rfl rfl rfl) rfl hm rfl rfl (Nat.le_of_ble_eq_true rfl) dX3_hut_8 (Nat.zero_le _) (Nat.zero_le _) (fun v9 τ h hp hm => ?_)
  obtain ⟨rfl, hx⟩ := hp
  have hT : RM (S.wRow (setsA (σ.2 1) x y).2.2) τ := ((hR.v (k := 0) (x := 0) (Or.inl rfl)).a (i := 2) (f := σ.2 1) (by decide)).ar hx
  have h2 : τ.2 2 = S.row := (hx.2.1 2 (by decide) (by decide)).trans hR.row
  refine a_iconst cx (v := 2) dX3_hut_11 (by decide) ?_
  refine m_call cx (k3_ends cx.htr hT h2 hl8) (lw_V q2089 q2091 qs33 q87 q2092) dn_X3_ends (RN.of rfl rfl rfl rfl) rfl hm rfl rfl (Nat.le_of_ble_eq_true rfl) dX3_hut_12 (Nat.zero_le _) (Nat.zero_le _) (fun v9 υ h hp hm => ?_)
  obtain ⟨rfl, hE⟩ := hp
  have hZ := MU.of (σ := ma (mv σ 0 0) 2 (σ.2 1)) hx rfl ⟨rfl, hE⟩
  exact a_iret cx hq dX3_hut_15 ⟨_, ⟨by exact hZ.1, by exact hZ.2⟩, hm⟩ (Nat.zero_le _) (Nat.zero_le _)
abbrev rm_X3_leave : Room := { frames := 3, cells := 0, slots := 0, locals := 67 }
set_option maxHeartbeats 4000000 in
theorem k3_leave {l : Launch} {g : GP} {ad : Nat → Nat} {σ : MS} (htr : l.stackTraces = false) {S : ST} {u : Int32} (hR : RM S σ) (hF : WF (σ.2 1)) (hl8 : S.hist.length ≤ 8) : MK l g ad yX3_leave cX3_leave 2 (some .int) rm_X3_leave σ [.int u] (fun v σ' => MU S (goesA (σ.2 1) u) 1 v σ') := by
  refine MK.of (by decide +kernel) htr (Nat.le_of_ble_eq_true rfl) (L0 := [some (.ref (ad 0)), some (.int u)]) rfl ?_
  intro M h0 h cx _ hq hm
  refine a_aload_n cx dX3_leave_0 rfl ?_
  refine m_callv cx (k3_remembers cx.htr) (lw_V q2056 q2058 qs27 q87 q2059) dn_X3_remembers (RN.of rfl rfl rfl rfl) rfl hm rfl rfl (Nat.le_of_ble_eq_true rfl) dX3_leave_1 (Nat.zero_le _) (Nat.zero_le _) (fun h hm => ?_)
  refine a_aload_n cx dX3_leave_4 rfl ?_
  refine a_aload_n cx dX3_leave_5 rfl ?_
  refine a_iload_n cx dX3_leave_6 rfl ?_
  refine m_call cx (k3_goes (σ := ma (mv σ 0 0) 2 (σ.2 1)) cx.htr hF.1) (lw_V q2117 q2119 qs38 q87 q2120) dn_X3_goes (RN.of rfl rfl rfl rfl) rfl hm rfl rfl (Nat.le_of_ble_eq_true rfl) dX3_leave_7 (Nat.zero_le _) (Nat.zero_le _) (fun v9 τ h hp hm => ?_)
  obtain ⟨rfl, hx⟩ := hp
  have hT : RM (S.wRow (goesA (σ.2 1) u).2.2) τ := ((hR.v (k := 0) (x := 0) (Or.inl rfl)).a (i := 2) (f := σ.2 1) (by decide)).ar hx
  have h2 : τ.2 2 = S.row := (hx.2.1 2 (by decide) (by decide)).trans hR.row
  refine a_iconst cx (v := 1) dX3_leave_10 (by decide) ?_
  refine m_call cx (k3_ends cx.htr hT h2 hl8) (lw_V q2089 q2091 qs33 q87 q2092) dn_X3_ends (RN.of rfl rfl rfl rfl) rfl hm rfl rfl (Nat.le_of_ble_eq_true rfl) dX3_leave_11 (Nat.zero_le _) (Nat.zero_le _) (fun v9 υ h hp hm => ?_)
  obtain ⟨rfl, hE⟩ := hp
  have hZ := MU.of (σ := ma (mv σ 0 0) 2 (σ.2 1)) hx rfl ⟨rfl, hE⟩
  exact a_iret cx hq dX3_leave_14 ⟨_, ⟨by exact hZ.1, by exact hZ.2⟩, hm⟩ (Nat.zero_le _) (Nat.zero_le _)
abbrev rm_X3_strike : Room := { frames := 3, cells := 0, slots := 0, locals := 67 }
set_option maxHeartbeats 4000000 in
theorem k3_strike {l : Launch} {g : GP} {ad : Nat → Nat} {σ : MS} (htr : l.stackTraces = false) {S : ST} {u : Int32} (hR : RM S σ) (hF : WF (σ.2 1)) (hl8 : S.hist.length ≤ 8) : MK l g ad yX3_strike cX3_strike 2 (some .int) rm_X3_strike σ [.int u] (fun v σ' => MU S (strikesA (σ.2 1) u) 1 v σ') := by
  refine MK.of (by decide +kernel) htr (Nat.le_of_ble_eq_true rfl) (L0 := [some (.ref (ad 0)), some (.int u)]) rfl ?_
  intro M h0 h cx _ hq hm
  refine a_aload_n cx dX3_strike_0 rfl ?_
  refine m_callv cx (k3_remembers cx.htr) (lw_V q2056 q2058 qs27 q87 q2059) dn_X3_remembers (RN.of rfl rfl rfl rfl) rfl hm rfl rfl (Nat.le_of_ble_eq_true rfl) dX3_strike_1 (Nat.zero_le _) (Nat.zero_le _) (fun h hm => ?_)
  refine a_aload_n cx dX3_strike_4 rfl ?_
  refine a_aload_n cx dX3_strike_5 rfl ?_
  refine a_iload_n cx dX3_strike_6 rfl ?_
  refine m_call cx (k3_strikes (σ := ma (mv σ 0 0) 2 (σ.2 1)) cx.htr hF.1) (lw_V q2129 q2131 qs40 q87 q2132) dn_X3_strikes (RN.of rfl rfl rfl rfl) rfl hm rfl rfl (Nat.le_of_ble_eq_true rfl) dX3_strike_7 (Nat.zero_le _) (Nat.zero_le _) (fun v9 τ h hp hm => ?_)
  obtain ⟨rfl, hx⟩ := hp
  have hT : RM (S.wRow (strikesA (σ.2 1) u).2.2) τ := ((hR.v (k := 0) (x := 0) (Or.inl rfl)).a (i := 2) (f := σ.2 1) (by decide)).ar hx
  have h2 : τ.2 2 = S.row := (hx.2.1 2 (by decide) (by decide)).trans hR.row
  refine a_iconst cx (v := 1) dX3_strike_10 (by decide) ?_
  refine m_call cx (k3_ends cx.htr hT h2 hl8) (lw_V q2089 q2091 qs33 q87 q2092) dn_X3_ends (RN.of rfl rfl rfl rfl) rfl hm rfl rfl (Nat.le_of_ble_eq_true rfl) dX3_strike_11 (Nat.zero_le _) (Nat.zero_le _) (fun v9 υ h hp hm => ?_)
  obtain ⟨rfl, hE⟩ := hp
  have hZ := MU.of (σ := ma (mv σ 0 0) 2 (σ.2 1)) hx rfl ⟨rfl, hE⟩
  exact a_iret cx hq dX3_strike_14 ⟨_, ⟨by exact hZ.1, by exact hZ.2⟩, hm⟩ (Nat.zero_le _) (Nat.zero_le _)
abbrev rm_X3_move : Room := { frames := 3, cells := 0, slots := 0, locals := 67 }
set_option maxHeartbeats 4000000 in
theorem k3_move {l : Launch} {g : GP} {ad : Nat → Nat} {σ : MS} (htr : l.stackTraces = false) {S : ST} {u x y : Int32} (hR : RM S σ) (hF : WF (σ.2 1)) (hl8 : S.hist.length ≤ 8) : MK l g ad yX3_move cX3_move 4 (some .int) rm_X3_move σ [.int u, .int x, .int y] (fun v σ' => MU S (movesA (σ.2 1) u x y) 3 v σ') := by
  refine MK.of (by decide +kernel) htr (Nat.le_of_ble_eq_true rfl) (L0 := [some (.ref (ad 0)), some (.int u), some (.int x), some (.int y)]) rfl ?_
  intro M h0 h cx _ hq hm
  refine a_aload_n cx dX3_move_0 rfl ?_
  refine m_callv cx (k3_remembers cx.htr) (lw_V q2056 q2058 qs27 q87 q2059) dn_X3_remembers (RN.of rfl rfl rfl rfl) rfl hm rfl rfl (Nat.le_of_ble_eq_true rfl) dX3_move_1 (Nat.zero_le _) (Nat.zero_le _) (fun h hm => ?_)
  refine a_aload_n cx dX3_move_4 rfl ?_
  refine a_aload_n cx dX3_move_5 rfl ?_
  refine a_iload_n cx dX3_move_6 rfl ?_
  refine a_iload_n cx dX3_move_7 rfl ?_
  refine a_iload_n cx dX3_move_8 rfl ?_
  refine m_call cx (k3_moves (σ := ma (mv σ 0 0) 2 (σ.2 1)) cx.htr hF.1) (lw_V q2145 q2147 qs43 q87 q2148) dn_X3_moves (RN.of rfl rfl rfl rfl) rfl hm rfl rfl (Nat.le_of_ble_eq_true rfl) dX3_move_9 (Nat.zero_le _) (Nat.zero_le _) (fun v9 τ h hp hm => ?_)
  obtain ⟨rfl, hx⟩ := hp
  have hT : RM (S.wRow (movesA (σ.2 1) u x y).2.2) τ := ((hR.v (k := 0) (x := 0) (Or.inl rfl)).a (i := 2) (f := σ.2 1) (by decide)).ar hx
  have h2 : τ.2 2 = S.row := (hx.2.1 2 (by decide) (by decide)).trans hR.row
  refine a_iconst cx (v := 3) dX3_move_12 (by decide) ?_
  refine m_call cx (k3_ends cx.htr hT h2 hl8) (lw_V q2089 q2091 qs33 q87 q2092) dn_X3_ends (RN.of rfl rfl rfl rfl) rfl hm rfl rfl (Nat.le_of_ble_eq_true rfl) dX3_move_13 (Nat.zero_le _) (Nat.zero_le _) (fun v9 υ h hp hm => ?_)
  obtain ⟨rfl, hE⟩ := hp
  have hZ := MU.of (σ := ma (mv σ 0 0) 2 (σ.2 1)) hx rfl ⟨rfl, hE⟩
  exact a_iret cx hq dX3_move_16 ⟨_, ⟨by exact hZ.1, by exact hZ.2⟩, hm⟩ (Nat.zero_le _) (Nat.zero_le _)
abbrev rm_X3_weigh : Room := { frames := 3, cells := 0, slots := 0, locals := 66 }
set_option maxHeartbeats 4000000 in
theorem k3_weigh {l : Launch} {g : GP} {ad : Nat → Nat} {σ : MS} (htr : l.stackTraces = false) {S : ST} {u w : Int32} (hR : RM S σ) (hF : WF (σ.2 1)) (hl8 : S.hist.length ≤ 8) : MK l g ad yX3_weigh cX3_weigh 3 (some .int) rm_X3_weigh σ [.int u, .int w] (fun v σ' => MU S (weighsA (σ.2 1) u w) 3 v σ') := by
  refine MK.of (by decide +kernel) htr (Nat.le_of_ble_eq_true rfl) (L0 := [some (.ref (ad 0)), some (.int u), some (.int w)]) rfl ?_
  intro M h0 h cx _ hq hm
  refine a_aload_n cx dX3_weigh_0 rfl ?_
  refine m_callv cx (k3_remembers cx.htr) (lw_V q2056 q2058 qs27 q87 q2059) dn_X3_remembers (RN.of rfl rfl rfl rfl) rfl hm rfl rfl (Nat.le_of_ble_eq_true rfl) dX3_weigh_1 (Nat.zero_le _) (Nat.zero_le _) (fun h hm => ?_)
  refine a_aload_n cx dX3_weigh_4 rfl ?_
  refine a_aload_n cx dX3_weigh_5 rfl ?_
  refine a_iload_n cx dX3_weigh_6 rfl ?_
  refine a_iload_n cx dX3_weigh_7 rfl ?_
  refine m_call cx (k3_weighs (σ := ma (mv σ 0 0) 2 (σ.2 1)) cx.htr hF.1) (lw_V q2153 q2155 qs44 q87 q2156) dn_X3_weighs (RN.of rfl rfl rfl rfl) rfl hm rfl rfl (Nat.le_of_ble_eq_true rfl) dX3_weigh_8 (Nat.zero_le _) (Nat.zero_le _) (fun v9 τ h hp hm => ?_)
  obtain ⟨rfl, hx⟩ := hp
  have hT : RM (S.wRow (weighsA (σ.2 1) u w).2.2) τ := ((hR.v (k := 0) (x := 0) (Or.inl rfl)).a (i := 2) (f := σ.2 1) (by decide)).ar hx
  have h2 : τ.2 2 = S.row := (hx.2.1 2 (by decide) (by decide)).trans hR.row
  refine a_iconst cx (v := 3) dX3_weigh_11 (by decide) ?_
  refine m_call cx (k3_ends cx.htr hT h2 hl8) (lw_V q2089 q2091 qs33 q87 q2092) dn_X3_ends (RN.of rfl rfl rfl rfl) rfl hm rfl rfl (Nat.le_of_ble_eq_true rfl) dX3_weigh_12 (Nat.zero_le _) (Nat.zero_le _) (fun v9 υ h hp hm => ?_)
  obtain ⟨rfl, hE⟩ := hp
  have hZ := MU.of (σ := ma (mv σ 0 0) 2 (σ.2 1)) hx rfl ⟨rfl, hE⟩
  exact a_iret cx hq dX3_weigh_15 ⟨_, ⟨by exact hZ.1, by exact hZ.2⟩, hm⟩ (Nat.zero_le _) (Nat.zero_le _)
abbrev rm_X3_round : Room := { frames := 6, cells := 0, slots := 0, locals := 133 }
set_option maxHeartbeats 4000000 in
theorem k3_round {l : Launch} {g : GP} {ad : Nat → Nat} {σ : MS} (htr : l.stackTraces = false) {S : ST} (hR : RM S σ) (hF : WF (σ.2 1)) (hl8 : S.hist.length ≤ 8) : MK l g ad yX3_round cX3_round 1 (some .int) rm_X3_round σ [] (fun v σ' => MU S (roundsA (σ.2 1)) 1 v σ') := by
  refine MK.of (by decide +kernel) htr (Nat.le_of_ble_eq_true rfl) (L0 := [some (.ref (ad 0))]) rfl ?_
  intro M h0 h cx _ hq hm
  refine a_aload_n cx dX3_round_0 rfl ?_
  refine m_callv cx (k3_remembers cx.htr) (lw_V q2056 q2058 qs27 q87 q2059) dn_X3_remembers (RN.of rfl rfl rfl rfl) rfl hm rfl rfl (Nat.le_of_ble_eq_true rfl) dX3_round_1 (Nat.zero_le _) (Nat.zero_le _) (fun h hm => ?_)
  refine a_aload_n cx dX3_round_4 rfl ?_
  refine a_aload_n cx dX3_round_5 rfl ?_
  refine m_call cx (k3_rounds (σ := ma (mv σ 0 0) 2 (σ.2 1)) cx.htr hF) (lw_V q2197 q2199 qs52 q87 q2200) dn_X3_rounds (RN.of rfl rfl rfl rfl) rfl hm rfl rfl (Nat.le_of_ble_eq_true rfl) dX3_round_6 (Nat.zero_le _) (Nat.zero_le _) (fun v9 τ h hp hm => ?_)
  obtain ⟨rfl, hx⟩ := hp
  have hT : RM (S.wRow (roundsA (σ.2 1)).2.2) τ := ((hR.v (k := 0) (x := 0) (Or.inl rfl)).a (i := 2) (f := σ.2 1) (by decide)).ar hx
  have h2 : τ.2 2 = S.row := (hx.2.1 2 (by decide) (by decide)).trans hR.row
  refine a_iconst cx (v := 1) dX3_round_9 (by decide) ?_
  refine m_call cx (k3_ends cx.htr hT h2 hl8) (lw_V q2089 q2091 qs33 q87 q2092) dn_X3_ends (RN.of rfl rfl rfl rfl) rfl hm rfl rfl (Nat.le_of_ble_eq_true rfl) dX3_round_10 (Nat.zero_le _) (Nat.zero_le _) (fun v9 υ h hp hm => ?_)
  obtain ⟨rfl, hE⟩ := hp
  have hZ := MU.of (σ := ma (mv σ 0 0) 2 (σ.2 1)) hx rfl ⟨rfl, hE⟩
  exact a_iret cx hq dX3_round_13 ⟨_, ⟨by exact hZ.1, by exact hZ.2⟩, hm⟩ (Nat.zero_le _) (Nat.zero_le _)
abbrev rm_X3_settle : Room := { frames := 7, cells := 0, slots := 0, locals := 158 }
set_option maxHeartbeats 4000000 in
theorem k3_settle {l : Launch} {g : GP} {ad : Nat → Nat} {σ : MS} (htr : l.stackTraces = false) {S : ST} {u : Int32} (hR : RM S σ) (hF : WF (σ.2 1)) (hl8 : S.hist.length ≤ 8) : MK l g ad yX3_settle cX3_settle 2 (some .int) rm_X3_settle σ [.int u] (fun v σ' => MU S (settlesA (σ.2 1) u) 2 v σ') := by
  refine MK.of (by decide +kernel) htr (Nat.le_of_ble_eq_true rfl) (L0 := [some (.ref (ad 0)), some (.int u)]) rfl ?_
  intro M h0 h cx _ hq hm
  refine a_aload_n cx dX3_settle_0 rfl ?_
  refine m_callv cx (k3_remembers cx.htr) (lw_V q2056 q2058 qs27 q87 q2059) dn_X3_remembers (RN.of rfl rfl rfl rfl) rfl hm rfl rfl (Nat.le_of_ble_eq_true rfl) dX3_settle_1 (Nat.zero_le _) (Nat.zero_le _) (fun h hm => ?_)
  refine a_aload_n cx dX3_settle_4 rfl ?_
  refine a_aload_n cx dX3_settle_5 rfl ?_
  refine a_iload_n cx dX3_settle_6 rfl ?_
  refine m_call cx (k3_settles (σ := ma (mv σ 0 0) 2 (σ.2 1)) cx.htr hF) (lw_V q2221 q2223 qs57 q87 q2224) dn_X3_settles (RN.of rfl rfl rfl rfl) rfl hm rfl rfl (Nat.le_of_ble_eq_true rfl) dX3_settle_7 (Nat.zero_le _) (Nat.zero_le _) (fun v9 τ h hp hm => ?_)
  obtain ⟨rfl, hx⟩ := hp
  have hT : RM (S.wRow (settlesA (σ.2 1) u).2.2) τ := ((hR.v (k := 0) (x := 0) (Or.inl rfl)).a (i := 2) (f := σ.2 1) (by decide)).ar hx
  have h2 : τ.2 2 = S.row := (hx.2.1 2 (by decide) (by decide)).trans hR.row
  refine a_iconst cx (v := 2) dX3_settle_10 (by decide) ?_
  refine m_call cx (k3_ends cx.htr hT h2 hl8) (lw_V q2089 q2091 qs33 q87 q2092) dn_X3_ends (RN.of rfl rfl rfl rfl) rfl hm rfl rfl (Nat.le_of_ble_eq_true rfl) dX3_settle_11 (Nat.zero_le _) (Nat.zero_le _) (fun v9 υ h hp hm => ?_)
  obtain ⟨rfl, hE⟩ := hp
  have hZ := MU.of (σ := ma (mv σ 0 0) 2 (σ.2 1)) hx rfl ⟨rfl, hE⟩
  exact a_iret cx hq dX3_settle_14 ⟨_, ⟨by exact hZ.1, by exact hZ.2⟩, hm⟩ (Nat.zero_le _) (Nat.zero_le _)
abbrev rm_X3_dog : Room := { frames := 3, cells := 0, slots := 0, locals := 66 }
set_option maxHeartbeats 4000000 in
theorem k3_dog {l : Launch} {g : GP} {ad : Nat → Nat} {σ : MS} (htr : l.stackTraces = false) {S : ST} {u w : Int32} (hR : RM S σ) (hF : WF (σ.2 1)) (hl8 : S.hist.length ≤ 8) : MK l g ad yX3_dog cX3_dog 3 (some .int) rm_X3_dog σ [.int u, .int w] (fun v σ' => MU S (sendsA (σ.2 1) u w) 2 v σ') := by
  refine MK.of (by decide +kernel) htr (Nat.le_of_ble_eq_true rfl) (L0 := [some (.ref (ad 0)), some (.int u), some (.int w)]) rfl ?_
  intro M h0 h cx _ hq hm
  refine a_aload_n cx dX3_dog_0 rfl ?_
  refine m_callv cx (k3_remembers cx.htr) (lw_V q2056 q2058 qs27 q87 q2059) dn_X3_remembers (RN.of rfl rfl rfl rfl) rfl hm rfl rfl (Nat.le_of_ble_eq_true rfl) dX3_dog_1 (Nat.zero_le _) (Nat.zero_le _) (fun h hm => ?_)
  refine a_aload_n cx dX3_dog_4 rfl ?_
  refine a_aload_n cx dX3_dog_5 rfl ?_
  refine a_iload_n cx dX3_dog_6 rfl ?_
  refine a_iload_n cx dX3_dog_7 rfl ?_
  refine m_call cx (k3_sends (σ := ma (mv σ 0 0) 2 (σ.2 1)) cx.htr hF.1) (lw_V q2281 q2283 qs63 q87 q2284) dn_X3_sends (RN.of rfl rfl rfl rfl) rfl hm rfl rfl (Nat.le_of_ble_eq_true rfl) dX3_dog_8 (Nat.zero_le _) (Nat.zero_le _) (fun v9 τ h hp hm => ?_)
  obtain ⟨rfl, hx⟩ := hp
  have hT : RM (S.wRow (sendsA (σ.2 1) u w).2.2) τ := ((hR.v (k := 0) (x := 0) (Or.inl rfl)).a (i := 2) (f := σ.2 1) (by decide)).ar hx
  have h2 : τ.2 2 = S.row := (hx.2.1 2 (by decide) (by decide)).trans hR.row
  refine a_iconst cx (v := 2) dX3_dog_11 (by decide) ?_
  refine m_call cx (k3_ends cx.htr hT h2 hl8) (lw_V q2089 q2091 qs33 q87 q2092) dn_X3_ends (RN.of rfl rfl rfl rfl) rfl hm rfl rfl (Nat.le_of_ble_eq_true rfl) dX3_dog_12 (Nat.zero_le _) (Nat.zero_le _) (fun v9 υ h hp hm => ?_)
  obtain ⟨rfl, hE⟩ := hp
  have hZ := MU.of (σ := ma (mv σ 0 0) 2 (σ.2 1)) hx rfl ⟨rfl, hE⟩
  exact a_iret cx hq dX3_dog_15 ⟨_, ⟨by exact hZ.1, by exact hZ.2⟩, hm⟩ (Nat.zero_le _) (Nat.zero_le _)
abbrev rm_X3_fetch : Room := { frames := 6, cells := 0, slots := 0, locals := 134 }
set_option maxHeartbeats 4000000 in
theorem k3_fetch {l : Launch} {g : GP} {ad : Nat → Nat} {σ : MS} (htr : l.stackTraces = false) {S : ST} {u : Int32} (hR : RM S σ) (hF : WF (σ.2 1)) (hl8 : S.hist.length ≤ 8) : MK l g ad yX3_fetch cX3_fetch 2 (some .int) rm_X3_fetch σ [.int u] (fun v σ' => MU S (fetchesA (σ.2 1) u) 2 v σ') := by
  refine MK.of (by decide +kernel) htr (Nat.le_of_ble_eq_true rfl) (L0 := [some (.ref (ad 0)), some (.int u)]) rfl ?_
  intro M h0 h cx _ hq hm
  refine a_aload_n cx dX3_fetch_0 rfl ?_
  refine m_callv cx (k3_remembers cx.htr) (lw_V q2056 q2058 qs27 q87 q2059) dn_X3_remembers (RN.of rfl rfl rfl rfl) rfl hm rfl rfl (Nat.le_of_ble_eq_true rfl) dX3_fetch_1 (Nat.zero_le _) (Nat.zero_le _) (fun h hm => ?_)
  refine a_aload_n cx dX3_fetch_4 rfl ?_
  refine a_aload_n cx dX3_fetch_5 rfl ?_
  refine a_iload_n cx dX3_fetch_6 rfl ?_
  refine m_call cx (k3_fetches (σ := ma (mv σ 0 0) 2 (σ.2 1)) cx.htr hF.1 hF.2.1) (lw_V q2289 q2291 qs64 q87 q2292) dn_X3_fetches (RN.of rfl rfl rfl rfl) rfl hm rfl rfl (Nat.le_of_ble_eq_true rfl) dX3_fetch_7 (Nat.zero_le _) (Nat.zero_le _) (fun v9 τ h hp hm => ?_)
  obtain ⟨rfl, hx⟩ := hp
  have hT : RM (S.wRow (fetchesA (σ.2 1) u).2.2) τ := ((hR.v (k := 0) (x := 0) (Or.inl rfl)).a (i := 2) (f := σ.2 1) (by decide)).ar hx
  have h2 : τ.2 2 = S.row := (hx.2.1 2 (by decide) (by decide)).trans hR.row
  refine a_iconst cx (v := 2) dX3_fetch_10 (by decide) ?_
  refine m_call cx (k3_ends cx.htr hT h2 hl8) (lw_V q2089 q2091 qs33 q87 q2092) dn_X3_ends (RN.of rfl rfl rfl rfl) rfl hm rfl rfl (Nat.le_of_ble_eq_true rfl) dX3_fetch_11 (Nat.zero_le _) (Nat.zero_le _) (fun v9 υ h hp hm => ?_)
  obtain ⟨rfl, hE⟩ := hp
  have hZ := MU.of (σ := ma (mv σ 0 0) 2 (σ.2 1)) hx rfl ⟨rfl, hE⟩
  exact a_iret cx hq dX3_fetch_14 ⟨_, ⟨by exact hZ.1, by exact hZ.2⟩, hm⟩ (Nat.zero_le _) (Nat.zero_le _)
