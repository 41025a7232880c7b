/-! THE MODEL: texts -/
set_option maxRecDepth 100000
theorem wtext_nil (S : ST) : S.wText (S.text ++ []) = S := by rw [List.append_nil]; rfl
abbrev rm_X3_append : Room := { frames := 1, cells := 0, slots := 0, locals := 22 }
set_option maxHeartbeats 4000000 in
theorem k3_append {l : Launch} {g : GP} {ad : Nat → Nat} {σ : MS} (htr : l.stackTraces = false) {S : ST} {u : Int32} (hR : RM S σ) (hl : S.text.length ≤ 60) : MK l g ad yX3_append cX3_append 5 (some .int) rm_X3_append σ [.int u] (fun v σ' => QP (sApp S u) (qApp S u) v σ') := by
  refine MK.of (by decide +kernel) htr (Nat.le_of_ble_eq_true rfl) (L0 := [some (.ref (ad 0)), some (.int u), none, none, none]) rfl ?_
  intro M h0 h cx _ hq hm
  refine a_aload_n cx dX3_append_0 rfl ?_
  refine a_iconst cx (v := 0) dX3_append_1 (by decide) ?_
  refine m_put cx (i := 0) fl_X3_53 dX3_append_2 hm rfl rfl rfl (fun h hm => ?_)
  refine a_iconst cx (v := 0) dX3_append_5 (by decide) ?_
  refine a_istore_n cx dX3_append_6 (Nat.le_of_ble_eq_true rfl) rfl ?_
  refine a_bipush cx (v := 24) dX3_append_7 (by decide) ?_
  refine a_istore_n cx dX3_append_9 (Nat.le_of_ble_eq_true rfl) rfl ?_
  have loop : ∀ (j k : Nat) (h : AH), k ≤ 4 → 4 < k + j → okb u k = true → MSt g ad h0 (mv σ 0 0) h → AW g M 0 0 10 [some (.ref (ad 0)), some (.int u), some (.int (nI (chs u k).length)), some (.int (sh k)), none] [] h := by
    intro j
    induction j with
    | zero => intro k h h1 h2; omega
    | succ j ih =>
      intro k h h1 h2 hk hm
      refine a_iload_n cx dX3_append_10 rfl ?_
      refine a_if_lt cx (tgt := 65) dX3_append_11 (by decide) (fun c11 => ?_) (fun c11 => ?_)
      · have e11 : k = 4 := (sh_neg k (by omega)).mp c11
        subst e11
        refine a_aload_n cx dX3_append_65 rfl ?_
        refine a_get cx fl_X3_222.g dX3_append_66 hm.o rfl ?_
        refine AW.topi (show (mv σ 0 0).1 3 = nI S.text.length from hR.len) ?_
        refine a_iload_n cx dX3_append_69 rfl ?_
        refine a_iadd cx dX3_append_70 ?_
        refine AW.topi (nI_add _ _) ?_
        refine a_bipush cx (v := 60) dX3_append_71 (by decide) ?_
        refine a_icmp_le cx (tgt := 82) dX3_append_73 (by decide) (fun c73 => ?_) (fun c73 => ?_)
        · have hc4 : (chs u 4).length ≤ 4 := by have := chs_le u 4; omega
          have d73 : S.text.length + (chs u 4).length ≤ 60 := le_nI (b := 60) c73 (by omega) (by omega)
          have eA : qApp S u = (0, nI (S.text.length + (chs u 4).length)) := by unfold qApp; rw [if_pos hk, if_pos d73]
          refine a_bipush cx (v := 24) dX3_append_82 (by decide) ?_
          refine a_istore_n cx dX3_append_84 (Nat.le_of_ble_eq_true rfl) rfl ?_
          have loop2 : ∀ (j k : Nat) (τ : MS) (h : AH), k ≤ 4 → 4 < k + j → MSt g ad h0 τ h → τ.1 0 = 0 → RM (S.wText (S.text ++ chs u k)) τ → AW g M 0 0 85 [some (.ref (ad 0)), some (.int u), some (.int (nI (chs u 4).length)), some (.int (sh k)), none] [] h := by
            intro j
            induction j with
            | zero => intro k τ h h1 h2; omega
            | succ j ih2 =>
              intro k τ h h1 h2 hm ht hT
              have hcm := chs_mono (u := u) (k := k) 4 h1
              refine a_iload_n cx dX3_append_85 rfl ?_
              refine a_if_lt cx (tgt := 133) dX3_append_86 (by decide) (fun c86 => ?_) (fun c86 => ?_)
              · have e86 : k = 4 := (sh_neg k (by omega)).mp c86
                subst e86
                refine a_aload_n cx dX3_append_133 rfl ?_
                refine a_get cx fl_X3_222.g dX3_append_134 hm.o rfl ?_
                refine AW.topi (show _ = nI (S.text ++ chs u 4).length from hT.len) ?_
                exact a_iret cx hq dX3_append_137 ⟨_, ⟨by rw [eA, List.length_append], by rw [sApp, eA, if_pos rfl]; exact ⟨ht, hT⟩⟩, hm⟩ (Nat.zero_le _) (Nat.zero_le _)
              · have d86 : k < 4 := by
                  have : k ≠ 4 := fun q => c86 ((sh_neg k (by omega)).mpr q)
                  omega
                refine a_iload_n cx dX3_append_89 rfl ?_
                refine a_iload_n cx dX3_append_90 rfl ?_
                refine a_iushr cx dX3_append_91 rfl ?_
                refine a_sipush cx (v := 255) dX3_append_92 (by decide) ?_
                refine a_iand cx dX3_append_95 ?_
                refine a_istore cx dX3_append_96 (Nat.le_of_ble_eq_true rfl) rfl ?_
                refine a_iload cx dX3_append_98 rfl ?_
                refine a_if_ne cx (tgt := 106) dX3_append_100 (by decide) (fun c100 => ?_) (fun c100 => ?_)
                · have e100 : chs u (k + 1) = chs u k ++ [byt u k] := by rw [chs, if_neg (show ¬ byt u k = 0 from c100)]
                  have hcm2 := chs_mono (u := u) (k := k + 1) 4 d86
                  rw [e100, List.length_append, List.length_singleton] at hcm2
                  refine a_aload_n cx dX3_append_106 rfl ?_
                  refine a_get cx fl_X3_28.g dX3_append_107 hm.o rfl ?_
                  refine a_aload_n cx dX3_append_110 rfl ?_
                  refine a_get cx fl_X3_222.g dX3_append_111 hm.o rfl ?_
                  refine AW.topi (show τ.1 3 = nI (S.text ++ chs u k).length from hT.len) ?_
                  refine a_iload cx dX3_append_114 rfl ?_
                  refine m_iast cx (i := 6) (by decide) dX3_append_116 hm rfl (show _ < 60 from by have : (S.text ++ chs u k).length = S.text.length + (chs u k).length := List.length_append; omega) (fun h hm => ?_)
                  refine a_aload_n cx dX3_append_117 rfl ?_
                  refine a_dup cx dX3_append_118 rfl ?_
                  refine a_get cx fl_X3_222.g dX3_append_119 hm.o rfl ?_
                  refine AW.topi (show _ = nI (S.text ++ chs u k).length from hT.len) ?_
                  refine a_iconst cx (v := 1) dX3_append_122 (by decide) ?_
                  refine a_iadd cx dX3_append_123 ?_
                  refine AW.topi (nI_1 _) ?_
                  refine m_put cx (i := 3) fl_X3_222 dX3_append_124 hm rfl rfl rfl (fun h hm => ?_)
                  refine a_iinc cx dX3_append_127 rfl rfl (Nat.le_of_ble_eq_true rfl) rfl ?_
                  refine a_goto cx (tgt := 85) dX3_append_130 (by decide) ?_
                  exact (ih2 (k + 1) _ h (by omega) (by omega) hm ht (by rw [e100, ← List.append_assoc]; exact hT.ch)).loc (by exact ⟨rfl, rfl, rfl, rfl, trivial⟩)
                · have e100 : chs u (k + 1) = chs u k := by rw [chs, if_pos (show byt u k = 0 from c100), List.append_nil]
                  refine a_goto cx (tgt := 127) dX3_append_103 (by decide) ?_
                  refine a_iinc cx dX3_append_127 rfl rfl (Nat.le_of_ble_eq_true rfl) rfl ?_
                  refine a_goto cx (tgt := 85) dX3_append_130 (by decide) ?_
                  exact (ih2 (k + 1) τ h (by omega) (by omega) hm ht (by rw [e100]; exact hT)).loc (by exact ⟨rfl, rfl, rfl, rfl, trivial⟩)
          exact (loop2 5 0 (mv σ 0 0) h (by omega) (by omega) hm (mv_at _ _ _) (by rw [show chs u 0 = [] from rfl, wtext_nil]; exact hR.v (Or.inl rfl))).loc (by exact ⟨rfl, rfl, rfl, rfl, trivial⟩)
        · have hc4 : (chs u 4).length ≤ 4 := by have := chs_le u 4; omega
          have d73 : 60 < S.text.length + (chs u 4).length := nle_nI (b := 60) c73 (by omega) (by omega)
          have eA : qApp S u = (2, 0) := by unfold qApp; rw [if_pos hk, if_neg (by omega)]
          refine a_aload_n cx dX3_append_76 rfl ?_
          refine a_iconst cx (v := 2) dX3_append_77 (by decide) ?_
          refine m_calli cx (k3_fails cx.htr) (lw_V q2097 q2099 qs35 q87 q2100) dn_X3_fails (RN.of rfl rfl rfl rfl) rfl hm rfl rfl (Nat.le_of_ble_eq_true rfl) dX3_append_78 (Nat.zero_le _) (Nat.zero_le _) (fun h hm => ?_)
          exact a_iret cx hq dX3_append_81 ⟨_, ⟨by rw [eA], by rw [sApp, eA, if_neg (by decide)]; exact ⟨mv_at _ _ _, (hR.v (k := 0) (x := 0) (Or.inl rfl)).v (Or.inl rfl)⟩⟩, hm⟩ (Nat.zero_le _) (Nat.zero_le _)
      · have d11 : k < 4 := by
          have : k ≠ 4 := fun q => c11 ((sh_neg k (by omega)).mpr q)
          omega
        refine a_iload_n cx dX3_append_14 rfl ?_
        refine a_iload_n cx dX3_append_15 rfl ?_
        refine a_iushr cx dX3_append_16 rfl ?_
        refine a_sipush cx (v := 255) dX3_append_17 (by decide) ?_
        refine a_iand cx dX3_append_20 ?_
        refine a_istore cx dX3_append_21 (Nat.le_of_ble_eq_true rfl) rfl ?_
        have J : okb u (k + 1) = true → AW g M 0 0 46 [some (.ref (ad 0)), some (.int u), some (.int (nI (chs u k).length)), some (.int (sh k)), some (.int (byt u k))] [] h := by
          intro hk1
          refine a_iload_n cx dX3_append_46 rfl ?_
          refine a_iload cx dX3_append_47 rfl ?_
          refine a_if_ne cx (tgt := 56) dX3_append_49 (by decide) (fun c49 => ?_) (fun c49 => ?_)
          · have r : nI (chs u k).length + 1 = nI (chs u (k + 1)).length := by rw [chs, if_neg c49, List.length_append]; exact nI_add _ 1
            refine a_iconst cx (v := 1) dX3_append_56 (by decide) ?_
            refine a_iadd cx dX3_append_57 ?_
            refine AW.topi r ?_
            refine a_istore_n cx dX3_append_58 (Nat.le_of_ble_eq_true rfl) rfl ?_
            refine a_iinc cx dX3_append_59 rfl rfl (Nat.le_of_ble_eq_true rfl) rfl ?_
            refine a_goto cx (tgt := 10) dX3_append_62 (by decide) ?_
            exact (ih (k + 1) h (by omega) (by omega) hk1 hm).loc (by exact ⟨rfl, rfl, rfl, rfl, trivial⟩)
          · have r : nI (chs u k).length + 0 = nI (chs u (k + 1)).length := by rw [chs, if_pos c49, List.append_nil]; exact nI_add _ 0
            refine a_iconst cx (v := 0) dX3_append_52 (by decide) ?_
            refine a_goto cx (tgt := 57) dX3_append_53 (by decide) ?_
            refine a_iadd cx dX3_append_57 ?_
            refine AW.topi r ?_
            refine a_istore_n cx dX3_append_58 (Nat.le_of_ble_eq_true rfl) rfl ?_
            refine a_iinc cx dX3_append_59 rfl rfl (Nat.le_of_ble_eq_true rfl) rfl ?_
            refine a_goto cx (tgt := 10) dX3_append_62 (by decide) ?_
            exact (ih (k + 1) h (by omega) (by omega) hk1 hm).loc (by exact ⟨rfl, rfl, rfl, rfl, trivial⟩)
        refine a_iload cx dX3_append_23 rfl ?_
        refine a_if_eq cx (tgt := 46) dX3_append_25 (by decide) (fun c25 => ?_) (fun c25 => ?_)
        · have hk1 : okb u (k + 1) = true := by rw [okb, hk, show byt u k = 0 from c25]; rfl
          exact J hk1
        · refine a_iload cx dX3_append_28 rfl ?_
          refine a_bipush cx (v := 32) dX3_append_30 (by decide) ?_
          refine a_bipush cx (v := 126) dX3_append_32 (by decide) ?_
          refine s_calli cx (k3_in cx.htr) (lw_S q2067 q2068 q87 q2069) dn_X3_in (RN.of rfl rfl rfl rfl) rfl rfl (Nat.le_of_ble_eq_true rfl) dX3_append_34 (Nat.zero_le _) (Nat.zero_le _) ?_
          refine a_if_ne cx (tgt := 46) dX3_append_37 (by decide) (fun c37 => ?_) (fun c37 => ?_)
          · have hk1 : okb u (k + 1) = true := by rw [okb, hk, show inR (byt u k) 32 126 = true from bI_n0 c37, Bool.or_true]; rfl
            exact J hk1
          · have hk0 : okb u (k + 1) = false := by rw [okb, hk, show inR (byt u k) 32 126 = false from (bI_0 _).mp c37, show (byt u k == 0) = false from by rw [beq_eq_false_iff_ne]; exact c25]; rfl
            have hok := okb_up hk0 4 (by omega)
            have eA : qApp S u = (1, 0) := by unfold qApp; rw [if_neg (by rw [hok]; decide)]
            refine a_aload_n cx dX3_append_40 rfl ?_
            refine a_iconst cx (v := 1) dX3_append_41 (by decide) ?_
            refine m_calli cx (k3_fails cx.htr) (lw_V q2097 q2099 qs35 q87 q2100) dn_X3_fails (RN.of rfl rfl rfl rfl) rfl hm rfl rfl (Nat.le_of_ble_eq_true rfl) dX3_append_42 (Nat.zero_le _) (Nat.zero_le _) (fun h hm => ?_)
            exact a_iret cx hq dX3_append_45 ⟨_, ⟨by rw [eA], by rw [sApp, eA, if_neg (by decide)]; exact ⟨mv_at _ _ _, (hR.v (k := 0) (x := 0) (Or.inl rfl)).v (Or.inl rfl)⟩⟩, hm⟩ (Nat.zero_le _) (Nat.zero_le _)
  exact (loop 5 0 h (by omega) (by omega) rfl hm).loc (by exact ⟨rfl, rfl, rfl, rfl, trivial⟩)
abbrev rm_X3_writes : Room := { frames := 0, cells := 0, slots := 0, locals := 0 }
set_option maxHeartbeats 4000000 in
theorem k3_writes {l : Launch} {g : GP} {ad : Nat → Nat} {σ : MS} (htr : l.stackTraces = false) {S : ST} {os : List Int32} {c : Int32} (hR : RM (S.wOut os) σ) (hl : os.length < 80) : MK l g ad yX3_writes cX3_writes 2 none rm_X3_writes σ [.int c] (fun v σ' => v = none ∧ σ'.1 0 = σ.1 0 ∧ RM (S.wOut (os ++ [c])) σ') := by
  refine MK.of (by decide +kernel) htr (Nat.le_of_ble_eq_true rfl) (L0 := [some (.ref (ad 0)), some (.int c)]) rfl ?_
  intro M h0 h cx _ hq hm
  refine a_aload_n cx dX3_writes_0 rfl ?_
  refine a_get cx fl_X3_34.g dX3_writes_1 hm.o rfl ?_
  refine a_aload_n cx dX3_writes_4 rfl ?_
  refine a_get cx fl_X3_206.g dX3_writes_5 hm.o rfl ?_
  refine AW.topi (show σ.1 4 = nI os.length from hR.outl) ?_
  refine a_iload_n cx dX3_writes_8 rfl ?_
  refine m_iast cx (i := 8) (by decide) dX3_writes_9 hm rfl (show _ < 80 from by omega) (fun h hm => ?_)
  refine a_aload_n cx dX3_writes_10 rfl ?_
  refine a_dup cx dX3_writes_11 rfl ?_
  refine a_get cx fl_X3_206.g dX3_writes_12 hm.o rfl ?_
  refine AW.topi (show σ.1 4 = nI os.length from hR.outl) ?_
  refine a_iconst cx (v := 1) dX3_writes_15 (by decide) ?_
  refine a_iadd cx dX3_writes_16 ?_
  refine AW.topi (nI_1 _) ?_
  refine m_put cx (i := 4) fl_X3_206 dX3_writes_17 hm rfl rfl rfl (fun h hm => ?_)
  exact a_vret cx hq dX3_writes_20 ⟨_, ⟨rfl, by exact ⟨rfl, hR.och⟩⟩, hm⟩ (Nat.zero_le _) (Nat.zero_le _)
abbrev rm_X3_writesNumber : Room := { frames := 1, cells := 0, slots := 0, locals := 21 }
set_option maxHeartbeats 4000000 in
theorem k3_writesNumber {l : Launch} {g : GP} {ad : Nat → Nat} {σ : MS} (htr : l.stackTraces = false) {S : ST} {os : List Int32} {n : Nat} (hR : RM (S.wOut os) σ) (hn : n ≤ 99) (hl : os.length < 79) : MK l g ad yX3_writesNumber cX3_writesNumber 2 none rm_X3_writesNumber σ [.int (nI n)] (fun v σ' => v = none ∧ σ'.1 0 = σ.1 0 ∧ RM (S.wOut (os ++ dgt n)) σ') := by
  refine MK.of (by decide +kernel) htr (Nat.le_of_ble_eq_true rfl) (L0 := [some (.ref (ad 0)), some (.int (nI n))]) rfl ?_
  intro M h0 h cx _ hq hm
  refine a_iload_n cx dX3_writesNumber_0 rfl ?_
  refine a_bipush cx (v := 9) dX3_writesNumber_1 (by decide) ?_
  refine a_icmp_le cx (tgt := 17) dX3_writesNumber_3 (by decide) (fun c3 => ?_) (fun c3 => ?_)
  · have d3 : n ≤ 9 := le_nI (b := 9) c3 (by omega) (by omega)
    have hT : RM (S.wOut (os ++ (if 9 < n then [nI (48 + n / 10)] else []))) σ := by rw [if_neg (by omega), List.append_nil]; exact hR
    have ht : σ.1 0 = σ.1 0 := rfl
    have hlt : (os ++ (if 9 < n then [nI (48 + n / 10)] else [])).length < 80 := by rw [if_neg (by omega), List.append_nil]; omega
    refine a_aload_n cx dX3_writesNumber_17 rfl ?_
    refine a_bipush cx (v := 48) dX3_writesNumber_18 (by decide) ?_
    refine a_iload_n cx dX3_writesNumber_20 rfl ?_
    refine a_bipush cx (v := 10) dX3_writesNumber_21 (by decide) ?_
    refine a_irem cx dX3_writesNumber_23 (by decide) ?_
    refine AW.topi (pk_rem (d := 10) (by omega) (by omega) (by omega)) ?_
    refine a_iadd cx dX3_writesNumber_24 ?_
    refine AW.topi (nI_add 48 _) ?_
    refine m_call cx (k3_writes cx.htr hT hlt) (lw_V q2317 q2319 qs66 q87 q2320) dn_X3_writes (RN.of rfl rfl rfl rfl) rfl hm rfl rfl (Nat.le_of_ble_eq_true rfl) dX3_writesNumber_25 (Nat.zero_le _) (Nat.zero_le _) (fun v9 υ h hp hm => ?_)
    obtain ⟨rfl, hu, hU⟩ := hp
    exact a_vret cx hq dX3_writesNumber_28 ⟨_, ⟨rfl, by exact ⟨hu.trans ht, by rw [dgt, ← List.append_assoc]; exact hU⟩⟩, hm⟩ (Nat.zero_le _) (Nat.zero_le _)
  · have d3 : 9 < n := nle_nI (b := 9) c3 (by omega) (by omega)
    refine a_aload_n cx dX3_writesNumber_6 rfl ?_
    refine a_bipush cx (v := 48) dX3_writesNumber_7 (by decide) ?_
    refine a_iload_n cx dX3_writesNumber_9 rfl ?_
    refine a_bipush cx (v := 10) dX3_writesNumber_10 (by decide) ?_
    refine a_idiv cx dX3_writesNumber_12 (by decide) ?_
    refine AW.topi (pk_div (d := 10) (by omega) (by omega) (by omega)) ?_
    refine a_iadd cx dX3_writesNumber_13 ?_
    refine AW.topi (nI_add 48 _) ?_
    refine m_call cx (k3_writes cx.htr hR (by omega)) (lw_V q2317 q2319 qs66 q87 q2320) dn_X3_writes (RN.of rfl rfl rfl rfl) rfl hm rfl rfl (Nat.le_of_ble_eq_true rfl) dX3_writesNumber_14 (Nat.zero_le _) (Nat.zero_le _) (fun v9 τ h hp hm => ?_)
    obtain ⟨rfl, ht, hT0⟩ := hp
    have hT : RM (S.wOut (os ++ (if 9 < n then [nI (48 + n / 10)] else []))) τ := by rw [if_pos d3]; exact hT0
    have hlt : (os ++ (if 9 < n then [nI (48 + n / 10)] else [])).length < 80 := by rw [if_pos d3, List.length_append, List.length_singleton]; omega
    refine a_aload_n cx dX3_writesNumber_17 rfl ?_
    refine a_bipush cx (v := 48) dX3_writesNumber_18 (by decide) ?_
    refine a_iload_n cx dX3_writesNumber_20 rfl ?_
    refine a_bipush cx (v := 10) dX3_writesNumber_21 (by decide) ?_
    refine a_irem cx dX3_writesNumber_23 (by decide) ?_
    refine AW.topi (pk_rem (d := 10) (by omega) (by omega) (by omega)) ?_
    refine a_iadd cx dX3_writesNumber_24 ?_
    refine AW.topi (nI_add 48 _) ?_
    refine m_call cx (k3_writes cx.htr hT hlt) (lw_V q2317 q2319 qs66 q87 q2320) dn_X3_writes (RN.of rfl rfl rfl rfl) rfl hm rfl rfl (Nat.le_of_ble_eq_true rfl) dX3_writesNumber_25 (Nat.zero_le _) (Nat.zero_le _) (fun v9 υ h hp hm => ?_)
    obtain ⟨rfl, hu, hU⟩ := hp
    exact a_vret cx hq dX3_writesNumber_28 ⟨_, ⟨rfl, by exact ⟨hu.trans ht, by rw [dgt, ← List.append_assoc]; exact hU⟩⟩, hm⟩ (Nat.zero_le _) (Nat.zero_le _)
abbrev rm_X3_line : Room := { frames := 1, cells := 0, slots := 0, locals := 21 }
set_option maxHeartbeats 4000000 in
theorem k3_line {l : Launch} {g : GP} {ad : Nat → Nat} {σ : MS} (htr : l.stackTraces = false) {S : ST} (hR : RM S σ) (hF : WF S.row) : MK l g ad yX3_line cX3_line 2 (some .int) rm_X3_line σ [] (fun v σ' => QP (S.wOut (lin S.row (nS S.row))) (0, nI (nS S.row)) v σ') := by
  refine MK.of (by decide +kernel) htr (Nat.le_of_ble_eq_true rfl) (L0 := [some (.ref (ad 0)), none]) rfl ?_
  intro M h0 h cx _ hq hm
  obtain ⟨hw1, hw2, hw3, hw4⟩ := id hF.1
  have hw := hF.1
  have ho := hF.2.1
  refine a_aload_n cx dX3_line_0 rfl ?_
  refine a_iconst cx (v := 0) dX3_line_1 (by decide) ?_
  refine m_put cx (i := 0) fl_X3_53 dX3_line_2 hm rfl rfl rfl (fun h hm => ?_)
  refine a_aload_n cx dX3_line_5 rfl ?_
  refine a_iconst cx (v := 0) dX3_line_6 (by decide) ?_
  refine m_put cx (i := 4) fl_X3_206 dX3_line_7 hm rfl rfl rfl (fun h hm => ?_)
  refine a_iconst cx (v := 0) dX3_line_10 (by decide) ?_
  refine a_istore_n cx dX3_line_11 (Nat.le_of_ble_eq_true rfl) rfl ?_
  have loop : ∀ (j k : Nat) (τ : MS) (h : AH), k ≤ nS S.row → nS S.row < k + j → MSt g ad h0 τ h → τ.1 0 = 0 → RM (S.wOut (lin S.row k)) τ → AW g M 0 0 12 [some (.ref (ad 0)), some (.int (nI k))] [] h := by
    intro j
    induction j with
    | zero => intro k τ h h1 h2; omega
    | succ j ih =>
      intro k τ h h1 h2 hm ht hT
      have hln := lin_len S.row k
      refine a_iload_n cx dX3_line_12 rfl ?_
      refine a_aload_n cx dX3_line_13 rfl ?_
      refine a_get cx fl_X3_7.g dX3_line_14 hm.o rfl ?_
      refine a_iconst cx (v := 0) dX3_line_17 (by decide) ?_
      refine a_iald cx dX3_line_18 hm.a1 (show (0 : Int32) = nI 0 from rfl) (by omega) (by decide) ?_
      refine AW.topi ((congrFun hT.row 0).trans hw1) ?_
      refine a_icmp_ge cx (tgt := 62) dX3_line_19 (by decide) (fun c19 => ?_) (fun c19 => ?_)
      · have d19 := le_nI c19 (by omega) (by omega)
        have e19 : k = nS S.row := by omega
        subst e19
        refine a_aload_n cx dX3_line_62 rfl ?_
        refine a_get cx fl_X3_206.g dX3_line_63 hm.o rfl ?_
        refine AW.topi (show τ.1 4 = nI (lin S.row (nS S.row)).length from hT.outl) ?_
        exact a_iret cx hq dX3_line_66 ⟨_, ⟨by rw [hln], by exact ⟨ht, hT⟩⟩, hm⟩ (Nat.zero_le _) (Nat.zero_le _)
      · have d19 := nle_nI c19 (by omega) (by omega)
        refine a_aload_n cx dX3_line_22 rfl ?_
        refine a_aload_n cx dX3_line_23 rfl ?_
        refine a_get cx fl_X3_7.g dX3_line_24 hm.o rfl ?_
        refine a_bipush cx (v := 63) dX3_line_27 (by decide) ?_
        refine a_iload_n cx dX3_line_29 rfl ?_
        refine a_iadd cx dX3_line_30 ?_
        refine a_iald cx dX3_line_31 hm.a1 (ix3 _) (by omega) (by decide) ?_
        refine AW.topi (show τ.2 1 (63 + k) = S.row (63 + k) from congrFun hT.row _) ?_
        refine a_iconst cx (v := -1) dX3_line_32 (by decide) ?_
        have J : ∀ (z : Int32), z = (if S.row (63 + k) = -1 then 45 else 48 + S.row (63 + k)) → AW g M 0 0 53 [some (.ref (ad 0)), some (.int (nI k))] [.int z, .ref (ad 0)] h := by
          intro z ez
          subst ez
          refine m_call cx (k3_writes cx.htr hT (by omega)) (lw_V q2317 q2319 qs66 q87 q2320) dn_X3_writes (RN.of rfl rfl rfl rfl) rfl hm rfl rfl (Nat.le_of_ble_eq_true rfl) dX3_line_53 (Nat.zero_le _) (Nat.zero_le _) (fun v9 υ h hp hm => ?_)
          obtain ⟨rfl, hu, hU⟩ := hp
          refine a_iincN cx dX3_line_56 rfl (Nat.le_of_ble_eq_true rfl) rfl ?_
          refine a_goto cx (tgt := 12) dX3_line_59 (by decide) ?_
          exact ih (k + 1) υ h (by omega) (by omega) hm (hu.trans ht) hU
        refine a_icmp_ne cx (tgt := 41) dX3_line_33 (by decide) (fun c33 => ?_) (fun c33 => ?_)
        · have r : 48 + S.row (63 + k) = (if S.row (63 + k) = -1 then 45 else 48 + S.row (63 + k)) := by rw [if_neg c33]
          refine a_bipush cx (v := 48) dX3_line_41 (by decide) ?_
          refine a_aload_n cx dX3_line_43 rfl ?_
          refine a_get cx fl_X3_7.g dX3_line_44 hm.o rfl ?_
          refine a_bipush cx (v := 63) dX3_line_47 (by decide) ?_
          refine a_iload_n cx dX3_line_49 rfl ?_
          refine a_iadd cx dX3_line_50 ?_
          refine a_iald cx dX3_line_51 hm.a1 (ix3 _) (by omega) (by decide) ?_
          refine AW.topi (show τ.2 1 (63 + k) = S.row (63 + k) from congrFun hT.row _) ?_
          refine a_iadd cx dX3_line_52 ?_
          exact J _ r
        · have r : (45 : Int32) = (if S.row (63 + k) = -1 then 45 else 48 + S.row (63 + k)) := by rw [if_pos c33]
          refine a_bipush cx (v := 45) dX3_line_36 (by decide) ?_
          refine a_goto cx (tgt := 53) dX3_line_38 (by decide) ?_
          exact J _ r
  exact loop (nS S.row + 1) 0 _ h (by omega) (by omega) hm (mv_at σ 0 0) (hR.v (Or.inl rfl)).o0
abbrev rm_X3_hutLine : Room := { frames := 2, cells := 0, slots := 0, locals := 43 }
set_option maxHeartbeats 4000000 in
theorem k3_hutLine {l : Launch} {g : GP} {ad : Nat → Nat} {σ : MS} (htr : l.stackTraces = false) {S : ST} {u : Int32} (hR : RM S σ) (hF : WF S.row) : MK l g ad yX3_hutLine cX3_hutLine 4 (some .int) rm_X3_hutLine σ [.int u] (fun v σ' => QP (sLine S u) (qLine S.row u) v σ') := by
  refine MK.of (by decide +kernel) htr (Nat.le_of_ble_eq_true rfl) (L0 := [some (.ref (ad 0)), some (.int u), none, none]) rfl ?_
  intro M h0 h cx _ hq hm
  obtain ⟨hw1, hw2, hw3, hw4⟩ := id hF.1
  have hw := hF.1
  have ho := hF.2.1
  have hww : WS (σ.2 1) := by rw [hR.row]; exact hw
  refine a_aload_n cx dX3_hutLine_0 rfl ?_
  refine a_aload_n cx dX3_hutLine_1 rfl ?_
  refine a_iload_n cx dX3_hutLine_2 rfl ?_
  refine m_calli cx (k3_isHut cx.htr hww) (lw_V q2133 q2135 qs41 q87 q2136) dn_X3_isHut (RN.of rfl rfl rfl rfl) rfl hm rfl rfl (Nat.le_of_ble_eq_true rfl) dX3_hutLine_3 (Nat.zero_le _) (Nat.zero_le _) (fun h hm => ?_)
  refine AW.topi (show bI (isIx u (nH (σ.2 1))) = bI (isIx u (nH S.row)) by rw [hR.row]) ?_
  refine a_if_eq cx (tgt := 13) dX3_hutLine_6 (by decide) (fun c6 => ?_) (fun c6 => ?_)
  · have eA : qLine S.row u = (1, 0) := if_neg (fun q => by have h9 := (bI_0 _).mp c6; rw [q] at h9; cases h9)
    have eS : sLine S u = S := if_neg (fun q => by have h9 := (bI_0 _).mp c6; rw [q] at h9; cases h9)
    refine a_iconst cx (v := 1) dX3_hutLine_13 (by decide) ?_
    refine m_put cx (i := 0) fl_X3_53 dX3_hutLine_14 hm rfl rfl rfl (fun h hm => ?_)
    refine a_aload_n cx dX3_hutLine_17 rfl ?_
    refine a_get cx fl_X3_53.g dX3_hutLine_18 hm.o rfl ?_
    refine a_if_le cx (tgt := 26) dX3_hutLine_21 (by decide) (fun c21 => absurd c21 (by rw [mv_at]; decide)) (fun c21 => ?_)
    refine a_iconst cx (v := 0) dX3_hutLine_24 (by decide) ?_
    exact a_iret cx hq dX3_hutLine_25 ⟨_, ⟨by rw [eA], by exact ⟨(mv_at _ _ _).trans (by rw [eA]), by rw [eS]; exact hR.v (Or.inl rfl)⟩⟩, hm⟩ (Nat.zero_le _) (Nat.zero_le _)
  · have p6 := bI_n0 c6
    obtain ⟨i, hi, rfl⟩ := (isIx_iff (by omega)).mp p6
    have h7 := hutL_len S.row i
    have hml : ∀ k, k ≤ 18 → (mem S.row i k).length ≤ 54 := fun k hk => by have := mem_len S.row i k; omega
    obtain ⟨⟨x, hx99, hxe⟩, y, hy99, hye⟩ := hF.2.2.2 i hi
    have ehl : hutL S.row i = (((([] ++ [40]) ++ dgt x) ++ [44]) ++ dgt y) ++ [41] := by unfold hutL; rw [hxe, hye, oN_nI (by omega), oN_nI (by omega)]; simp
    have e1 := dgt_len x
    have e2 := dgt_len y
    have eA : qLine S.row (nI i) = (0, nI (hutL S.row i ++ mem S.row i (nS S.row)).length) := by unfold qLine; rw [if_pos p6, oN_nI (by omega)]
    have eS : sLine S (nI i) = S.wOut (hutL S.row i ++ mem S.row i (nS S.row)) := by unfold sLine; rw [if_pos p6, oN_nI (by omega)]
    refine a_iconst cx (v := 0) dX3_hutLine_9 (by decide) ?_
    refine a_goto cx (tgt := 14) dX3_hutLine_10 (by decide) ?_
    refine m_put cx (i := 0) fl_X3_53 dX3_hutLine_14 hm rfl rfl rfl (fun h hm => ?_)
    refine a_aload_n cx dX3_hutLine_17 rfl ?_
    refine a_get cx fl_X3_53.g dX3_hutLine_18 hm.o rfl ?_
    refine a_if_le cx (tgt := 26) dX3_hutLine_21 (by decide) (fun c21 => ?_) (fun c21 => absurd (by rw [mv_at]; decide) c21)
    refine a_aload_n cx dX3_hutLine_26 rfl ?_
    refine a_iconst cx (v := 0) dX3_hutLine_27 (by decide) ?_
    refine m_put cx (i := 4) fl_X3_206 dX3_hutLine_28 hm rfl rfl rfl (fun h hm => ?_)
    refine a_aload_n cx dX3_hutLine_31 rfl ?_
    refine a_bipush cx (v := 40) dX3_hutLine_32 (by decide) ?_
    refine m_call cx (k3_writes cx.htr (os := []) ((hR.v (k := 0) (x := 0) (Or.inl rfl)).o0) (by decide)) (lw_V q2317 q2319 qs66 q87 q2320) dn_X3_writes (RN.of rfl rfl rfl rfl) rfl hm rfl rfl (Nat.le_of_ble_eq_true rfl) dX3_hutLine_34 (Nat.zero_le _) (Nat.zero_le _) (fun v9 τ1 h hp hm => ?_)
    obtain ⟨rfl, t1, hT1⟩ := hp
    refine a_aload_n cx dX3_hutLine_37 rfl ?_
    refine a_aload_n cx dX3_hutLine_38 rfl ?_
    refine a_get cx fl_X3_7.g dX3_hutLine_39 hm.o rfl ?_
    refine a_bipush cx (v := 81) dX3_hutLine_42 (by decide) ?_
    refine a_iload_n cx dX3_hutLine_44 rfl ?_
    refine a_iadd cx dX3_hutLine_45 ?_
    refine a_iald cx dX3_hutLine_46 hm.a1 (ix4 _) (by omega) (by decide) ?_
    refine AW.topi (show τ1.2 1 (81 + i) = nI x from (congrFun hT1.row _).trans hxe) ?_
    refine m_call cx (k3_writesNumber cx.htr hT1 hx99 (by decide)) (lw_V q2321 q2323 qs67 q87 q2324) dn_X3_writesNumber (RN.of rfl rfl rfl rfl) rfl hm rfl rfl (Nat.le_of_ble_eq_true rfl) dX3_hutLine_47 (Nat.zero_le _) (Nat.zero_le _) (fun v9 τ2 h hp hm => ?_)
    obtain ⟨rfl, t2, hT2⟩ := hp
    refine a_aload_n cx dX3_hutLine_50 rfl ?_
    refine a_bipush cx (v := 44) dX3_hutLine_51 (by decide) ?_
    refine m_call cx (k3_writes cx.htr hT2 (by simp only [List.length_append, List.length_cons, List.length_nil]; omega)) (lw_V q2317 q2319 qs66 q87 q2320) dn_X3_writes (RN.of rfl rfl rfl rfl) rfl hm rfl rfl (Nat.le_of_ble_eq_true rfl) dX3_hutLine_53 (Nat.zero_le _) (Nat.zero_le _) (fun v9 τ3 h hp hm => ?_)
    obtain ⟨rfl, t3, hT3⟩ := hp
    refine a_aload_n cx dX3_hutLine_56 rfl ?_
    refine a_aload_n cx dX3_hutLine_57 rfl ?_
    refine a_get cx fl_X3_7.g dX3_hutLine_58 hm.o rfl ?_
    refine a_bipush cx (v := 87) dX3_hutLine_61 (by decide) ?_
    refine a_iload_n cx dX3_hutLine_63 rfl ?_
    refine a_iadd cx dX3_hutLine_64 ?_
    refine a_iald cx dX3_hutLine_65 hm.a1 (ix5 _) (by omega) (by decide) ?_
    refine AW.topi (show τ3.2 1 (87 + i) = nI y from (congrFun hT3.row _).trans hye) ?_
    refine m_call cx (k3_writesNumber cx.htr hT3 hy99 (by simp only [List.length_append, List.length_cons, List.length_nil]; omega)) (lw_V q2321 q2323 qs67 q87 q2324) dn_X3_writesNumber (RN.of rfl rfl rfl rfl) rfl hm rfl rfl (Nat.le_of_ble_eq_true rfl) dX3_hutLine_66 (Nat.zero_le _) (Nat.zero_le _) (fun v9 τ4 h hp hm => ?_)
    obtain ⟨rfl, t4, hT4⟩ := hp
    refine a_aload_n cx dX3_hutLine_69 rfl ?_
    refine a_bipush cx (v := 41) dX3_hutLine_70 (by decide) ?_
    refine m_call cx (k3_writes cx.htr hT4 (by simp only [List.length_append, List.length_cons, List.length_nil]; omega)) (lw_V q2317 q2319 qs66 q87 q2320) dn_X3_writes (RN.of rfl rfl rfl rfl) rfl hm rfl rfl (Nat.le_of_ble_eq_true rfl) dX3_hutLine_72 (Nat.zero_le _) (Nat.zero_le _) (fun v9 τ5 h hp hm => ?_)
    obtain ⟨rfl, t5, hT5⟩ := hp
    rw [← ehl] at hT5
    have ht5 : τ5.1 0 = 0 := t5.trans (t4.trans (t3.trans (t2.trans (t1.trans (mv_at σ 0 0)))))
    refine a_iconst cx (v := 0) dX3_hutLine_75 (by decide) ?_
    refine a_istore_n cx dX3_hutLine_76 (Nat.le_of_ble_eq_true rfl) rfl ?_
    refine a_iconst cx (v := 0) dX3_hutLine_77 (by decide) ?_
    refine a_istore_n cx dX3_hutLine_78 (Nat.le_of_ble_eq_true rfl) rfl ?_
    have loop : ∀ (j k : Nat) (τ : MS) (h : AH), k ≤ nS S.row → nS S.row < k + j → MSt g ad h0 τ h → τ.1 0 = 0 → RM (S.wOut (hutL S.row i ++ mem S.row i k)) τ → AW g M 0 0 79 [some (.ref (ad 0)), some (.int (nI i)), some (.int (nI (cnt S.row (nI i) k))), some (.int (nI k))] [] h := by
      intro j
      induction j with
      | zero => intro k τ h h1 h2; omega
      | succ j ih =>
        intro k τ h h1 h2 hm ht hT
        have hmk := hml k (by omega)
        have hlk : (hutL S.row i ++ mem S.row i k).length ≤ 61 := by rw [List.length_append]; omega
        refine a_iload_n cx dX3_hutLine_79 rfl ?_
        refine a_aload_n cx dX3_hutLine_80 rfl ?_
        refine a_get cx fl_X3_7.g dX3_hutLine_81 hm.o rfl ?_
        refine a_iconst cx (v := 0) dX3_hutLine_84 (by decide) ?_
        refine a_iald cx dX3_hutLine_85 hm.a1 (show (0 : Int32) = nI 0 from rfl) (by omega) (by decide) ?_
        refine AW.topi ((congrFun hT.row 0).trans hw1) ?_
        refine a_icmp_ge cx (tgt := 134) dX3_hutLine_86 (by decide) (fun c86 => ?_) (fun c86 => ?_)
        · have d86 := le_nI c86 (by omega) (by omega)
          have e86 : k = nS S.row := by omega
          subst e86
          refine a_aload_n cx dX3_hutLine_134 rfl ?_
          refine a_get cx fl_X3_206.g dX3_hutLine_135 hm.o rfl ?_
          refine AW.topi (show τ.1 4 = _ from hT.outl) ?_
          exact a_iret cx hq dX3_hutLine_138 ⟨_, ⟨by rw [eA]; rfl, by rw [eA, eS]; exact ⟨ht, hT⟩⟩, hm⟩ (Nat.zero_le _) (Nat.zero_le _)
        · have d86 := nle_nI c86 (by omega) (by omega)
          refine a_aload_n cx dX3_hutLine_89 rfl ?_
          refine a_get cx fl_X3_7.g dX3_hutLine_90 hm.o rfl ?_
          refine a_bipush cx (v := 63) dX3_hutLine_93 (by decide) ?_
          refine a_iload_n cx dX3_hutLine_95 rfl ?_
          refine a_iadd cx dX3_hutLine_96 ?_
          refine a_iald cx dX3_hutLine_97 hm.a1 (ix3 _) (by omega) (by decide) ?_
          refine AW.topi (show τ.2 1 (63 + k) = S.row (63 + k) from congrFun hT.row _) ?_
          refine a_iload_n cx dX3_hutLine_98 rfl ?_
          refine a_icmp_eq cx (tgt := 105) dX3_hutLine_99 (by decide) (fun c99 => ?_) (fun c99 => ?_)
          · have ec : cnt S.row (nI i) (k + 1) = cnt S.row (nI i) k + 1 := by rw [cnt, if_pos c99]
            refine a_aload_n cx dX3_hutLine_105 rfl ?_
            refine a_iload_n cx dX3_hutLine_106 rfl ?_
            have J : ∀ (z : Int32), z = (if cnt S.row (nI i) k = 0 then (58 : Int32) else 44) → AW g M 0 0 117 [some (.ref (ad 0)), some (.int (nI i)), some (.int (nI (cnt S.row (nI i) k))), some (.int (nI k))] [.int z, .ref (ad 0)] h := by
              intro z ez
              subst ez
              refine m_call cx (k3_writes cx.htr hT (by omega)) (lw_V q2317 q2319 qs66 q87 q2320) dn_X3_writes (RN.of rfl rfl rfl rfl) rfl hm rfl rfl (Nat.le_of_ble_eq_true rfl) dX3_hutLine_117 (Nat.zero_le _) (Nat.zero_le _) (fun v9 υ h hp hm => ?_)
              obtain ⟨rfl, hu, hU⟩ := hp
              refine a_aload_n cx dX3_hutLine_120 rfl ?_
              refine a_iload_n cx dX3_hutLine_121 rfl ?_
              refine m_call cx (k3_writesNumber cx.htr hU (by omega) (by rw [List.length_append, List.length_singleton]; omega)) (lw_V q2321 q2323 qs67 q87 q2324) dn_X3_writesNumber (RN.of rfl rfl rfl rfl) rfl hm rfl rfl (Nat.le_of_ble_eq_true rfl) dX3_hutLine_122 (Nat.zero_le _) (Nat.zero_le _) (fun v9 ζ h hp hm => ?_)
              obtain ⟨rfl, hz, hZ⟩ := hp
              have em : mem S.row i (k + 1) = mem S.row i k ++ ((if cnt S.row (nI i) k = 0 then (58 : Int32) else 44) :: dgt k) := by rw [mem, if_pos c99]
              refine a_iincN cx dX3_hutLine_125 rfl (Nat.le_of_ble_eq_true rfl) rfl ?_
              refine a_iincN cx dX3_hutLine_128 rfl (Nat.le_of_ble_eq_true rfl) rfl ?_
              refine a_goto cx (tgt := 79) dX3_hutLine_131 (by decide) ?_
              have q9 := ih (k + 1) ζ h (by omega) (by omega) hm (hz.trans (hu.trans ht)) (by rw [em, ← List.append_assoc, List.append_cons]; exact hZ)
              rw [ec] at q9
              exact q9
            refine a_if_ne cx (tgt := 115) dX3_hutLine_107 (by decide) (fun c107 => ?_) (fun c107 => ?_)
            · have r : (44 : Int32) = (if cnt S.row (nI i) k = 0 then (58 : Int32) else 44) := (if_neg (fun q => c107 (by rw [q]; rfl))).symm
              refine a_bipush cx (v := 44) dX3_hutLine_115 (by decide) ?_
              exact J _ r
            · have r : (58 : Int32) = (if cnt S.row (nI i) k = 0 then (58 : Int32) else 44) := by
                have := cnt_le S.row (nI i) k
                exact (if_pos (nI_inj (by omega) (by decide) c107)).symm
              refine a_bipush cx (v := 58) dX3_hutLine_110 (by decide) ?_
              refine a_goto cx (tgt := 117) dX3_hutLine_112 (by decide) ?_
              exact J _ r
          · have em : mem S.row i (k + 1) = mem S.row i k := by rw [mem, if_neg c99, List.append_nil]
            have ec : cnt S.row (nI i) (k + 1) = cnt S.row (nI i) k := by rw [cnt, if_neg c99]; rfl
            refine a_goto cx (tgt := 128) dX3_hutLine_102 (by decide) ?_
            refine a_iincN cx dX3_hutLine_128 rfl (Nat.le_of_ble_eq_true rfl) rfl ?_
            refine a_goto cx (tgt := 79) dX3_hutLine_131 (by decide) ?_
            have q9 := ih (k + 1) τ h (by omega) (by omega) hm ht (by rw [em]; exact hT)
            rw [ec] at q9
            exact q9
    exact loop (nS S.row + 1) 0 τ5 h (by omega) (by omega) hm ht5 (by rw [show mem S.row i 0 = [] from rfl, List.append_nil]; exact hT5)
abbrev rm_X3_character : Room := { frames := 1, cells := 0, slots := 0, locals := 22 }
set_option maxHeartbeats 4000000 in
theorem k3_character {l : Launch} {g : GP} {ad : Nat → Nat} {σ : MS} (htr : l.stackTraces = false) {S : ST} {u : Int32} (hR : RM S σ) (hl : S.out.length ≤ 80) (hO : ∀ i, i < S.out.length → ∃ n, n < 128 ∧ S.out[i]? = some (nI n)) : MK l g ad yX3_character cX3_character 2 (some .char) rm_X3_character σ [.int u] (fun v σ' => QP S (qChar S u) v σ') := by
  refine MK.of (by decide +kernel) htr (Nat.le_of_ble_eq_true rfl) (L0 := [some (.ref (ad 0)), some (.int u)]) rfl ?_
  intro M h0 h cx _ hq hm
  refine a_aload_n cx dX3_character_0 rfl ?_
  refine a_iload_n cx dX3_character_1 rfl ?_
  refine a_iconst cx (v := 0) dX3_character_2 (by decide) ?_
  refine a_aload_n cx dX3_character_3 rfl ?_
  refine a_get cx fl_X3_206.g dX3_character_4 hm.o rfl ?_
  refine AW.topi (show σ.1 4 = nI S.out.length from hR.outl) ?_
  refine a_iconst cx (v := 1) dX3_character_7 (by decide) ?_
  refine a_isub cx dX3_character_8 ?_
  refine s_calli cx (k3_in cx.htr) (lw_S q2067 q2068 q87 q2069) dn_X3_in (RN.of rfl rfl rfl rfl) rfl rfl (Nat.le_of_ble_eq_true rfl) dX3_character_9 (Nat.zero_le _) (Nat.zero_le _) ?_
  refine a_if_eq cx (tgt := 19) dX3_character_12 (by decide) (fun c12 => ?_) (fun c12 => ?_)
  · have eA : qChar S u = (1, 0) := if_neg (fun q => by have h9 := (bI_0 _).mp c12; rw [q] at h9; cases h9)
    refine a_iconst cx (v := 1) dX3_character_19 (by decide) ?_
    refine m_put cx (i := 0) fl_X3_53 dX3_character_20 hm rfl rfl rfl (fun h hm => ?_)
    refine a_aload_n cx dX3_character_23 rfl ?_
    refine a_get cx fl_X3_53.g dX3_character_24 hm.o rfl ?_
    refine a_if_le cx (tgt := 34) dX3_character_27 (by decide) (fun c27 => absurd c27 (by rw [mv_at]; decide)) (fun c27 => ?_)
    refine a_iconst cx (v := 0) dX3_character_30 (by decide) ?_
    refine a_goto cx (tgt := 41) dX3_character_31 (by decide) ?_
    exact a_zret cx hq dX3_character_41 (by first | exact hq2 | rfl) ⟨_, ⟨by rw [eA], by exact ⟨(mv_at _ _ _).trans (by rw [eA]), hR.v (Or.inl rfl)⟩⟩, hm⟩ (Nat.zero_le _) (Nat.zero_le _)
  · have p12 := bI_n0 c12
    obtain ⟨i, hi, rfl⟩ := (isIx_iff (n := S.out.length) (by omega)).mp p12
    obtain ⟨n, hn, hc⟩ := hO i hi
    obtain ⟨hq1, hq2⟩ := i2c_ok n hn
    have eA : qChar S (nI i) = (0, nI n) := by unfold qChar; rw [if_pos p12, oN_nI (by omega), List.getD_eq_getElem?_getD, hc]; rfl
    refine a_iconst cx (v := 0) dX3_character_15 (by decide) ?_
    refine a_goto cx (tgt := 20) dX3_character_16 (by decide) ?_
    refine m_put cx (i := 0) fl_X3_53 dX3_character_20 hm rfl rfl rfl (fun h hm => ?_)
    refine a_aload_n cx dX3_character_23 rfl ?_
    refine a_get cx fl_X3_53.g dX3_character_24 hm.o rfl ?_
    refine a_if_le cx (tgt := 34) dX3_character_27 (by decide) (fun c27 => ?_) (fun c27 => absurd (by rw [mv_at]; decide) c27)
    refine a_aload_n cx dX3_character_34 rfl ?_
    refine a_get cx fl_X3_34.g dX3_character_35 hm.o rfl ?_
    refine a_iload_n cx dX3_character_38 rfl ?_
    refine a_iald cx dX3_character_39 hm.a9 rfl (by omega) (by decide) ?_
    refine AW.topi (show σ.2 9 i = nI n from hR.out i _ hc) ?_
    refine a_i2c cx dX3_character_40 hq1 ?_
    exact a_zret cx hq dX3_character_41 (by first | exact hq2 | rfl) ⟨_, ⟨by rw [eA], by exact ⟨(mv_at _ _ _).trans (by rw [eA]), hR.v (Or.inl rfl)⟩⟩, hm⟩ (Nat.zero_le _) (Nat.zero_le _)
abbrev rm_X3_meanDistance : Room := { frames := 3, cells := 0, slots := 0, locals := 65 }
set_option maxHeartbeats 4000000 in
theorem k3_meanDistance {l : Launch} {g : GP} {ad : Nat → Nat} {σ : MS} (htr : l.stackTraces = false) {S : ST} (hR : RM S σ) (hF : WF S.row) : MK l g ad yX3_meanDistance cX3_meanDistance 4 (some .double) rm_X3_meanDistance σ [] (fun v σ' => v = some (.double (if fcn S.row (nS S.row) = 0 then FP.dconst0 else FP.ddiv (FP.i2d (fsum S.row (nS S.row))) (FP.i2d (nI (fcn S.row (nS S.row)))))) ∧ σ'.1 0 = (if fcn S.row (nS S.row) = 0 then 1 else 0) ∧ RM S σ') := by
  refine MK.of (by decide +kernel) htr (Nat.le_of_ble_eq_true rfl) (L0 := [some (.ref (ad 0)), none, none, none]) rfl ?_
  intro M h0 h cx _ hq hm
  obtain ⟨hw1, hw2, hw3, hw4⟩ := id hF.1
  have hw := hF.1
  have ho := hF.2.1
  have hT := hR.v (k := 0) (x := 0) (Or.inl rfl)
  refine a_aload_n cx dX3_meanDistance_0 rfl ?_
  refine a_iconst cx (v := 0) dX3_meanDistance_1 (by decide) ?_
  refine m_put cx (i := 0) fl_X3_53 dX3_meanDistance_2 hm rfl rfl rfl (fun h hm => ?_)
  refine a_iconst cx (v := 0) dX3_meanDistance_5 (by decide) ?_
  refine a_istore_n cx dX3_meanDistance_6 (Nat.le_of_ble_eq_true rfl) rfl ?_
  refine a_iconst cx (v := 0) dX3_meanDistance_7 (by decide) ?_
  refine a_istore_n cx dX3_meanDistance_8 (Nat.le_of_ble_eq_true rfl) rfl ?_
  refine a_iconst cx (v := 0) dX3_meanDistance_9 (by decide) ?_
  refine a_istore_n cx dX3_meanDistance_10 (Nat.le_of_ble_eq_true rfl) rfl ?_
  have loop : ∀ (j k : Nat) (h : AH), k ≤ nS S.row → nS S.row < k + j → MSt g ad h0 (mv σ 0 0) h → AW g M 0 0 11 [some (.ref (ad 0)), some (.int (fsum S.row k)), some (.int (nI (fcn S.row k))), some (.int (nI k))] [] h := by
    intro j
    induction j with
    | zero => intro k h h1 h2; omega
    | succ j ih =>
      intro k h h1 h2 hm
      refine a_iload_n cx dX3_meanDistance_11 rfl ?_
      refine a_aload_n cx dX3_meanDistance_12 rfl ?_
      refine a_get cx fl_X3_7.g dX3_meanDistance_13 hm.o rfl ?_
      refine a_iconst cx (v := 0) dX3_meanDistance_16 (by decide) ?_
      refine a_iald cx dX3_meanDistance_17 hm.a1 (show (0 : Int32) = nI 0 from rfl) (by omega) (by decide) ?_
      refine AW.topi ((congrFun hT.row 0).trans hw1) ?_
      refine a_icmp_ge cx (tgt := 63) dX3_meanDistance_18 (by decide) (fun c18 => ?_) (fun c18 => ?_)
      · have d18 := le_nI c18 (by omega) (by omega)
        have e18 : k = nS S.row := by omega
        subst e18
        refine a_iload_n cx dX3_meanDistance_63 rfl ?_
        refine a_if_le cx (tgt := 73) dX3_meanDistance_64 (by decide) (fun c64 => ?_) (fun c64 => ?_)
        · have hz : fcn S.row (nS S.row) = 0 := by
            have b9 := fcn_le S.row (nS S.row)
            have := le_nI (b := 0) c64 (by omega) (by omega)
            omega
          refine a_aload_n cx dX3_meanDistance_73 rfl ?_
          refine a_iconst cx (v := 1) dX3_meanDistance_74 (by decide) ?_
          refine m_put cx (i := 0) fl_X3_53 dX3_meanDistance_75 hm rfl rfl rfl (fun h hm => ?_)
          refine a_dconst0 cx dX3_meanDistance_78 ?_
          exact a_dret cx hq dX3_meanDistance_79 ⟨_, ⟨by rw [if_pos hz], by exact ⟨(mv_at _ _ _).trans (if_pos hz).symm, hT.v (Or.inl rfl)⟩⟩, hm⟩ (Nat.le_of_ble_eq_true rfl) (Nat.le_of_ble_eq_true rfl)
        · have hb9 := fcn_le S.row (nS S.row)
          have hz : 0 < fcn S.row (nS S.row) := nle_nI (b := 0) c64 (by omega) (by omega)
          refine a_iload_n cx dX3_meanDistance_67 rfl ?_
          refine a_i2d cx dX3_meanDistance_68 ?_
          refine a_iload_n cx dX3_meanDistance_69 rfl ?_
          refine a_i2d cx dX3_meanDistance_70 ?_
          refine a_ddiv cx dX3_meanDistance_71 (nn64 hz (by omega)) ?_
          exact a_dret cx hq dX3_meanDistance_72 ⟨_, ⟨by rw [if_neg (by omega)], by exact ⟨(mv_at _ _ _).trans (if_neg (by omega)).symm, hT⟩⟩, hm⟩ (Nat.le_of_ble_eq_true rfl) (Nat.le_of_ble_eq_true rfl)
      · have d18 := nle_nI c18 (by omega) (by omega)
        refine a_aload_n cx dX3_meanDistance_21 rfl ?_
        refine a_get cx fl_X3_7.g dX3_meanDistance_22 hm.o rfl ?_
        refine a_bipush cx (v := 63) dX3_meanDistance_25 (by decide) ?_
        refine a_iload_n cx dX3_meanDistance_27 rfl ?_
        refine a_iadd cx dX3_meanDistance_28 ?_
        refine a_iald cx dX3_meanDistance_29 hm.a1 (ix3 _) (by omega) (by decide) ?_
        refine AW.topi (show (mv σ 0 0).2 1 (63 + k) = S.row (63 + k) from congrFun hT.row _) ?_
        refine a_iconst cx (v := -1) dX3_meanDistance_30 (by decide) ?_
        refine a_icmp_ne cx (tgt := 37) dX3_meanDistance_31 (by decide) (fun c31 => ?_) (fun c31 => ?_)
        · obtain ⟨j, hj, ej⟩ := (ho.1 k (by omega)).ix c31
          have r1 : fsum S.row k + far S.row k j = fsum S.row (k + 1) := by rw [fsum, if_neg c31, ej, oN_nI (by omega)]
          have r2 : fcn S.row (k + 1) = fcn S.row k + 1 := by rw [fcn, if_neg c31]
          refine a_iload_n cx dX3_meanDistance_37 rfl ?_
          refine a_aload_n cx dX3_meanDistance_38 rfl ?_
          refine a_iload_n cx dX3_meanDistance_39 rfl ?_
          refine a_aload_n cx dX3_meanDistance_40 rfl ?_
          refine a_get cx fl_X3_7.g dX3_meanDistance_41 hm.o rfl ?_
          refine a_bipush cx (v := 63) dX3_meanDistance_44 (by decide) ?_
          refine a_iload_n cx dX3_meanDistance_46 rfl ?_
          refine a_iadd cx dX3_meanDistance_47 ?_
          refine a_iald cx dX3_meanDistance_48 hm.a1 (ix3 _) (by omega) (by decide) ?_
          refine AW.topi (show (mv σ 0 0).2 1 (63 + k) = nI j from (congrFun hT.row _).trans ej) ?_
          refine m_calli cx (k3_far (σ := mv σ 0 0) cx.htr (by omega) (by omega)) (lw_V q2161 q2163 qs45 q87 q2164) dn_X3_far (RN.of rfl rfl rfl rfl) rfl hm rfl rfl (Nat.le_of_ble_eq_true rfl) dX3_meanDistance_49 (Nat.zero_le _) (Nat.zero_le _) (fun h hm => ?_)
          refine AW.topi (show far ((mv σ 0 0).2 1) k j = far S.row k j by rw [show (mv σ 0 0).2 1 = S.row from hT.row]) ?_
          refine a_iadd cx dX3_meanDistance_52 ?_
          refine AW.topi r1 ?_
          refine a_istore_n cx dX3_meanDistance_53 (Nat.le_of_ble_eq_true rfl) rfl ?_
          refine a_iincN cx dX3_meanDistance_54 rfl (Nat.le_of_ble_eq_true rfl) rfl ?_
          refine a_iincN cx dX3_meanDistance_57 rfl (Nat.le_of_ble_eq_true rfl) rfl ?_
          refine a_goto cx (tgt := 11) dX3_meanDistance_60 (by decide) ?_
          have q9 := ih (k + 1) h (by omega) (by omega) hm
          rw [r2] at q9
          exact q9
        · have r1 : fsum S.row (k + 1) = fsum S.row k := by rw [fsum, if_pos c31]; exact Int32.add_zero _
          have r2 : fcn S.row (k + 1) = fcn S.row k := by rw [fcn, if_pos c31]; rfl
          refine a_goto cx (tgt := 57) dX3_meanDistance_34 (by decide) ?_
          refine a_iincN cx dX3_meanDistance_57 rfl (Nat.le_of_ble_eq_true rfl) rfl ?_
          refine a_goto cx (tgt := 11) dX3_meanDistance_60 (by decide) ?_
          have q9 := ih (k + 1) h (by omega) (by omega) hm
          rw [r1, r2] at q9
          exact q9
  exact loop (nS S.row + 1 - 0) 0 h (by omega) (by omega) (hm.eq (by rfl))
abbrev rm_X3_strayShare : Room := { frames := 6, cells := 0, slots := 0, locals := 132 }
set_option maxHeartbeats 4000000 in
theorem k3_strayShare {l : Launch} {g : GP} {ad : Nat → Nat} {σ : MS} (htr : l.stackTraces = false) {S : ST} (hR : RM S σ) (hF : WF S.row) : MK l g ad yX3_strayShare cX3_strayShare 1 (some .float) rm_X3_strayShare σ [] (fun v σ' => v = some (.float (if nS S.row = 0 then FP.fconst0 else FP.fdiv (FP.i2f (nI (strm S.row (nS S.row)))) (FP.i2f (nI (nS S.row))))) ∧ σ'.1 0 = (if nS S.row = 0 then 1 else 0) ∧ RM S σ') := by
  refine MK.of (by decide +kernel) htr (Nat.le_of_ble_eq_true rfl) (L0 := [some (.ref (ad 0))]) rfl ?_
  intro M h0 h cx _ hq hm
  obtain ⟨hw1, hw2, hw3, hw4⟩ := id hF.1
  have hw := hF.1
  have ho := hF.2.1
  refine a_aload_n cx dX3_strayShare_0 rfl ?_
  refine a_aload_n cx dX3_strayShare_1 rfl ?_
  refine a_get cx fl_X3_7.g dX3_strayShare_2 hm.o rfl ?_
  refine a_iconst cx (v := 0) dX3_strayShare_5 (by decide) ?_
  refine a_iald cx dX3_strayShare_6 hm.a1 (show (0 : Int32) = nI 0 from rfl) (by omega) (by decide) ?_
  refine AW.topi (show σ.2 1 0 = nI (nS S.row) from (congrFun hR.row 0).trans hw1) ?_
  refine a_if_ne cx (tgt := 14) dX3_strayShare_7 (by decide) (fun c7 => ?_) (fun c7 => ?_)
  · have hz : nS S.row ≠ 0 := fun q => c7 (by rw [q]; rfl)
    have hb9 := strm_le S.row (nS S.row)
    refine a_iconst cx (v := 0) dX3_strayShare_14 (by decide) ?_
    refine m_put cx (i := 0) fl_X3_53 dX3_strayShare_15 hm rfl rfl rfl (fun h hm => ?_)
    refine a_aload_n cx dX3_strayShare_18 rfl ?_
    refine a_get cx fl_X3_53.g dX3_strayShare_19 hm.o rfl ?_
    refine a_if_le cx (tgt := 29) dX3_strayShare_22 (by decide) (fun c22 => ?_) (fun c22 => absurd (by rw [mv_at]; decide) c22)
    refine a_aload_n cx dX3_strayShare_29 rfl ?_
    refine m_calli cx (k3_strayMany (σ := mv σ 0 0) cx.htr (by rw [show (mv σ 0 0).2 1 = S.row from hR.row]; exact hw) (by rw [show (mv σ 0 0).2 1 = S.row from hR.row]; exact ho.1)) (lw_V q2269 q2271 qs62 q87 q2272) dn_X3_strayMany (RN.of rfl rfl rfl rfl) rfl hm rfl rfl (Nat.le_of_ble_eq_true rfl) dX3_strayShare_30 (Nat.zero_le _) (Nat.zero_le _) (fun h hm => ?_)
    refine AW.topi (show _ = nI (strm S.row (nS S.row)) by rw [show (mv σ 0 0).2 1 = S.row from hR.row]) ?_
    refine a_i2f cx dX3_strayShare_33 ?_
    refine a_aload_n cx dX3_strayShare_34 rfl ?_
    refine a_get cx fl_X3_7.g dX3_strayShare_35 hm.o rfl ?_
    refine a_iconst cx (v := 0) dX3_strayShare_38 (by decide) ?_
    refine a_iald cx dX3_strayShare_39 hm.a1 (show (0 : Int32) = nI 0 from rfl) (by omega) (by decide) ?_
    refine AW.topi (show (mv σ 0 0).2 1 0 = nI (nS S.row) from (congrFun hR.row 0).trans hw1) ?_
    refine a_i2f cx dX3_strayShare_40 ?_
    refine a_fdiv cx dX3_strayShare_41 (nn32 (by omega) (by omega) (by omega)).1 ?_
    exact a_fret cx hq dX3_strayShare_42 ⟨_, ⟨by first | rw [if_pos hz] | rw [if_neg hz], by exact ⟨(mv_at _ _ _).trans (by first | rw [if_pos hz] | rw [if_neg hz]), hR.v (Or.inl rfl)⟩⟩, hm⟩ (Nat.le_of_ble_eq_true rfl) (Nat.le_of_ble_eq_true rfl)
  · have hz : nS S.row = 0 := nI_inj (by omega) (by decide) c7
    refine a_iconst cx (v := 1) dX3_strayShare_10 (by decide) ?_
    refine a_goto cx (tgt := 15) dX3_strayShare_11 (by decide) ?_
    refine m_put cx (i := 0) fl_X3_53 dX3_strayShare_15 hm rfl rfl rfl (fun h hm => ?_)
    refine a_aload_n cx dX3_strayShare_18 rfl ?_
    refine a_get cx fl_X3_53.g dX3_strayShare_19 hm.o rfl ?_
    refine a_if_le cx (tgt := 29) dX3_strayShare_22 (by decide) (fun c22 => absurd c22 (by rw [mv_at]; decide)) (fun c22 => ?_)
    refine a_fconst0 cx dX3_strayShare_25 ?_
    refine a_goto cx (tgt := 42) dX3_strayShare_26 (by decide) ?_
    exact a_fret cx hq dX3_strayShare_42 ⟨_, ⟨by first | rw [if_pos hz] | rw [if_neg hz], by exact ⟨(mv_at _ _ _).trans (by first | rw [if_pos hz] | rw [if_neg hz]), hR.v (Or.inl rfl)⟩⟩, hm⟩ (Nat.le_of_ble_eq_true rfl) (Nat.le_of_ble_eq_true rfl)
