/-! THE MODEL: questions, 2 -/
set_option maxRecDepth 100000
abbrev rm_X3_sheepOf : Room := { frames := 5, cells := 0, slots := 0, locals := 110 }
set_option maxHeartbeats 4000000 in
theorem k3_sheepOf {l : Launch} {g : GP} {ad : Nat → Nat} {σ : MS} (htr : l.stackTraces = false) {S : ST} {u f : Int32} (hR : RM S σ) (hF : WF (σ.2 1)) : MK l g ad yX3_sheepOf cX3_sheepOf 4 (some .int) rm_X3_sheepOf σ [.int u, .int f] (fun v σ' => QP S (qSheep (σ.2 1) u f) v σ') := by
  refine MK.of (by decide +kernel) htr (Nat.le_of_ble_eq_true rfl) (L0 := [some (.ref (ad 0)), some (.int u), some (.int f), none]) rfl ?_
  intro M h0 h cx _ hq hm
  obtain ⟨hw1, hw2, hw3, hw4⟩ := id hF.1
  have hw := hF.1
  have ho := hF.2.1
  refine a_aload_n cx dX3_sheepOf_0 rfl ?_
  refine a_aload_n cx dX3_sheepOf_1 rfl ?_
  refine a_iload_n cx dX3_sheepOf_2 rfl ?_
  refine m_calli cx (k3_isSheep cx.htr hw) (lw_V q2121 q2123 qs39 q87 q2124) dn_X3_isSheep (RN.of rfl rfl rfl rfl) rfl hm rfl rfl (Nat.le_of_ble_eq_true rfl) dX3_sheepOf_3 (Nat.zero_le _) (Nat.zero_le _) (fun h hm => ?_)
  refine a_if_eq cx (tgt := 13) dX3_sheepOf_6 (by decide) (fun c6 => ?_) (fun c6 => ?_)
  · have eA : qSheep (σ.2 1) u f = (1, 0) := if_neg (fun q => by have h9 := (bI_0 _).mp c6; rw [q] at h9; cases h9)
    refine a_iconst cx (v := 1) dX3_sheepOf_13 (by decide) ?_
    refine m_put cx (i := 0) fl_X3_53 dX3_sheepOf_14 hm rfl rfl rfl (fun h hm => ?_)
    refine a_aload_n cx dX3_sheepOf_17 rfl ?_
    refine a_get cx fl_X3_53.g dX3_sheepOf_18 hm.o rfl ?_
    refine a_if_le cx (tgt := 26) dX3_sheepOf_21 (by decide) (fun c21 => absurd c21 (by rw [mv_at]; decide)) (fun c21 => ?_)
    refine a_iconst cx (v := 0) dX3_sheepOf_24 (by decide) ?_
    exact a_iret cx hq dX3_sheepOf_25 ⟨_, ⟨by rw [eA]; try rfl, by exact ⟨(mv_at _ _ _).trans (by rw [eA]), hR.v (Or.inl rfl)⟩⟩, hm⟩ (Nat.zero_le _) (Nat.zero_le _)
  · have p6 := bI_n0 c6
    obtain ⟨i, hi, rfl⟩ := (isIx_iff (by omega)).mp p6
    refine a_iconst cx (v := 0) dX3_sheepOf_9 (by decide) ?_
    refine a_goto cx (tgt := 14) dX3_sheepOf_10 (by decide) ?_
    refine m_put cx (i := 0) fl_X3_53 dX3_sheepOf_14 hm rfl rfl rfl (fun h hm => ?_)
    refine a_aload_n cx dX3_sheepOf_17 rfl ?_
    refine a_get cx fl_X3_53.g dX3_sheepOf_18 hm.o rfl ?_
    refine a_if_le cx (tgt := 26) dX3_sheepOf_21 (by decide) (fun c21 => ?_) (fun c21 => absurd (by rw [mv_at]; decide) c21)
    refine a_aload_n cx dX3_sheepOf_26 rfl ?_
    refine a_get cx fl_X3_7.g dX3_sheepOf_27 hm.o rfl ?_
    refine a_bipush cx (v := 63) dX3_sheepOf_30 (by decide) ?_
    refine a_iload_n cx dX3_sheepOf_32 rfl ?_
    refine a_iadd cx dX3_sheepOf_33 ?_
    refine a_iald cx dX3_sheepOf_34 hm.a1 (ix3 _) (by omega) (by decide) ?_
    refine a_istore_n cx dX3_sheepOf_35 (Nat.le_of_ble_eq_true rfl) rfl ?_
    refine a_iload_n cx dX3_sheepOf_36 rfl ?_
    by_cases e37_0 : f = 0
    · refine AW.topi e37_0 ?_
      refine a_tabIn cx (tgt := 80) dX3_sheepOf_37 (by decide) (by decide) rfl (by decide) ?_
      have eA : qSheep (σ.2 1) (nI i) f = (0, (σ.2 1) (9 + i)) := by unfold qSheep; rw [if_pos p6, if_pos e37_0, oN_nI (by omega)]
      refine a_aload_n cx dX3_sheepOf_80 rfl ?_
      refine a_get cx fl_X3_7.g dX3_sheepOf_81 hm.o rfl ?_
      refine a_bipush cx (v := 9) dX3_sheepOf_84 (by decide) ?_
      refine a_iload_n cx dX3_sheepOf_86 rfl ?_
      refine a_iadd cx dX3_sheepOf_87 ?_
      refine a_iald cx dX3_sheepOf_88 hm.a1 (ix0 _) (by omega) (by decide) ?_
      exact a_iret cx hq dX3_sheepOf_89 ⟨_, ⟨by rw [eA]; try rfl, by exact ⟨(mv_at _ _ _).trans (by rw [eA]), hR.v (Or.inl rfl)⟩⟩, hm⟩ (Nat.zero_le _) (Nat.zero_le _)
    by_cases e37_1 : f = 1
    · refine AW.topi e37_1 ?_
      refine a_tabIn cx (tgt := 90) dX3_sheepOf_37 (by decide) (by decide) rfl (by decide) ?_
      have eA : qSheep (σ.2 1) (nI i) f = (0, (σ.2 1) (27 + i)) := by unfold qSheep; rw [if_pos p6, if_neg e37_0, if_pos e37_1, oN_nI (by omega)]
      refine a_aload_n cx dX3_sheepOf_90 rfl ?_
      refine a_get cx fl_X3_7.g dX3_sheepOf_91 hm.o rfl ?_
      refine a_bipush cx (v := 27) dX3_sheepOf_94 (by decide) ?_
      refine a_iload_n cx dX3_sheepOf_96 rfl ?_
      refine a_iadd cx dX3_sheepOf_97 ?_
      refine a_iald cx dX3_sheepOf_98 hm.a1 (ix1 _) (by omega) (by decide) ?_
      exact a_iret cx hq dX3_sheepOf_99 ⟨_, ⟨by rw [eA]; try rfl, by exact ⟨(mv_at _ _ _).trans (by rw [eA]), hR.v (Or.inl rfl)⟩⟩, hm⟩ (Nat.zero_le _) (Nat.zero_le _)
    by_cases e37_2 : f = 2
    · refine AW.topi e37_2 ?_
      refine a_tabIn cx (tgt := 100) dX3_sheepOf_37 (by decide) (by decide) rfl (by decide) ?_
      have eA : qSheep (σ.2 1) (nI i) f = (0, (σ.2 1) (45 + i)) := by unfold qSheep; rw [if_pos p6, if_neg e37_0, if_neg e37_1, if_pos e37_2, oN_nI (by omega)]
      refine a_aload_n cx dX3_sheepOf_100 rfl ?_
      refine a_get cx fl_X3_7.g dX3_sheepOf_101 hm.o rfl ?_
      refine a_bipush cx (v := 45) dX3_sheepOf_104 (by decide) ?_
      refine a_iload_n cx dX3_sheepOf_106 rfl ?_
      refine a_iadd cx dX3_sheepOf_107 ?_
      refine a_iald cx dX3_sheepOf_108 hm.a1 (ix2 _) (by omega) (by decide) ?_
      exact a_iret cx hq dX3_sheepOf_109 ⟨_, ⟨by rw [eA]; try rfl, by exact ⟨(mv_at _ _ _).trans (by rw [eA]), hR.v (Or.inl rfl)⟩⟩, hm⟩ (Nat.zero_le _) (Nat.zero_le _)
    by_cases e37_3 : f = 3
    · refine AW.topi e37_3 ?_
      refine a_tabIn cx (tgt := 110) dX3_sheepOf_37 (by decide) (by decide) rfl (by decide) ?_
      have eA : qSheep (σ.2 1) (nI i) f = (0, (σ.2 1) (63 + i)) := by unfold qSheep; rw [if_pos p6, if_neg e37_0, if_neg e37_1, if_neg e37_2, if_pos e37_3, oN_nI (by omega)]
      refine a_iload_n cx dX3_sheepOf_110 rfl ?_
      exact a_iret cx hq dX3_sheepOf_111 ⟨_, ⟨by rw [eA]; try rfl, by exact ⟨(mv_at _ _ _).trans (by rw [eA]), hR.v (Or.inl rfl)⟩⟩, hm⟩ (Nat.zero_le _) (Nat.zero_le _)
    by_cases e37_4 : f = 4
    · refine AW.topi e37_4 ?_
      refine a_tabIn cx (tgt := 112) dX3_sheepOf_37 (by decide) (by decide) rfl (by decide) ?_
      have eA : qSheep (σ.2 1) (nI i) f = (0, farO (σ.2 1) i) := by unfold qSheep; rw [if_pos p6, if_neg e37_0, if_neg e37_1, if_neg e37_2, if_neg e37_3, if_pos e37_4, oN_nI (by omega)]
      refine a_iload_n cx dX3_sheepOf_112 rfl ?_
      refine a_iconst cx (v := -1) dX3_sheepOf_113 (by decide) ?_
      refine a_icmp_ne cx (tgt := 121) dX3_sheepOf_114 (by decide) (fun c114 => ?_) (fun c114 => ?_)
      · obtain ⟨j, hj, ej⟩ := (ho.1 i (by omega)).ix c114
        rw [show farO (σ.2 1) i = far (σ.2 1) i j by unfold farO; rw [if_neg (show ¬ (σ.2 1) (63 + i) = -1 from c114), show (σ.2 1) (63 + i) = nI j from ej, oN_nI (by omega)]] at eA
        refine a_aload_n cx dX3_sheepOf_121 rfl ?_
        refine a_iload_n cx dX3_sheepOf_122 rfl ?_
        refine a_iload_n cx dX3_sheepOf_123 rfl ?_
        refine AW.topi ej ?_
        refine m_calli cx (k3_far (σ := mv σ 0 0) cx.htr (by omega) (by omega)) (lw_V q2161 q2163 qs45 q87 q2164) dn_X3_far (RN.of rfl rfl rfl rfl) rfl hm rfl rfl (Nat.le_of_ble_eq_true rfl) dX3_sheepOf_124 (Nat.zero_le _) (Nat.zero_le _) (fun h hm => ?_)
        exact a_iret cx hq dX3_sheepOf_127 ⟨_, ⟨by rw [eA]; try rfl, by exact ⟨(mv_at _ _ _).trans (by rw [eA]), hR.v (Or.inl rfl)⟩⟩, hm⟩ (Nat.zero_le _) (Nat.zero_le _)
      · rw [show farO (σ.2 1) i = -1 from if_pos c114] at eA
        refine a_iconst cx (v := -1) dX3_sheepOf_117 (by decide) ?_
        refine a_goto cx (tgt := 127) dX3_sheepOf_118 (by decide) ?_
        exact a_iret cx hq dX3_sheepOf_127 ⟨_, ⟨by rw [eA]; try rfl, by exact ⟨(mv_at _ _ _).trans (by rw [eA]), hR.v (Or.inl rfl)⟩⟩, hm⟩ (Nat.zero_le _) (Nat.zero_le _)
    by_cases e37_5 : f = 5
    · refine AW.topi e37_5 ?_
      refine a_tabIn cx (tgt := 128) dX3_sheepOf_37 (by decide) (by decide) rfl (by decide) ?_
      have eA : qSheep (σ.2 1) (nI i) f = (0, oI (nearO (σ.2 1) i)) := by unfold qSheep; rw [if_pos p6, if_neg e37_0, if_neg e37_1, if_neg e37_2, if_neg e37_3, if_neg e37_4, if_pos e37_5, oN_nI (by omega)]
      refine a_aload_n cx dX3_sheepOf_128 rfl ?_
      refine a_iload_n cx dX3_sheepOf_129 rfl ?_
      refine m_calli cx (k3_nearestOf (σ := mv σ 0 0) cx.htr (by omega) hw) (lw_V q2165 q2167 qs46 q87 q2168) dn_X3_nearestOf (RN.of rfl rfl rfl rfl) rfl hm rfl rfl (Nat.le_of_ble_eq_true rfl) dX3_sheepOf_130 (Nat.zero_le _) (Nat.zero_le _) (fun h hm => ?_)
      exact a_iret cx hq dX3_sheepOf_133 ⟨_, ⟨by rw [eA]; try rfl, by exact ⟨(mv_at _ _ _).trans (by rw [eA]), hR.v (Or.inl rfl)⟩⟩, hm⟩ (Nat.zero_le _) (Nat.zero_le _)
    by_cases e37_6 : f = 6
    · refine AW.topi e37_6 ?_
      refine a_tabIn cx (tgt := 134) dX3_sheepOf_37 (by decide) (by decide) rfl (by decide) ?_
      have eA : qSheep (σ.2 1) (nI i) f = (0, bI (stray (σ.2 1) i)) := by unfold qSheep; rw [if_pos p6, if_neg e37_0, if_neg e37_1, if_neg e37_2, if_neg e37_3, if_neg e37_4, if_neg e37_5, if_pos e37_6, oN_nI (by omega)]
      refine a_aload_n cx dX3_sheepOf_134 rfl ?_
      refine a_iload_n cx dX3_sheepOf_135 rfl ?_
      refine m_calli cx (k3_isStray (σ := mv σ 0 0) cx.htr (by omega) hw (ho.1 i (by omega))) (lw_V q2169 q2171 qs47 q87 q2172) dn_X3_isStray (RN.of rfl rfl rfl rfl) rfl hm rfl rfl (Nat.le_of_ble_eq_true rfl) dX3_sheepOf_136 (Nat.zero_le _) (Nat.zero_le _) (fun h hm => ?_)
      refine a_if_eq cx (tgt := 146) dX3_sheepOf_139 (by decide) (fun c139 => ?_) (fun c139 => ?_)
      · rw [show bI (stray (σ.2 1) i) = 0 from c139] at eA
        refine a_iconst cx (v := 0) dX3_sheepOf_146 (by decide) ?_
        exact a_iret cx hq dX3_sheepOf_147 ⟨_, ⟨by rw [eA]; try rfl, by exact ⟨(mv_at _ _ _).trans (by rw [eA]), hR.v (Or.inl rfl)⟩⟩, hm⟩ (Nat.zero_le _) (Nat.zero_le _)
      · rw [show bI (stray (σ.2 1) i) = 1 from bI_t (bI_n0 c139)] at eA
        refine a_iconst cx (v := 1) dX3_sheepOf_142 (by decide) ?_
        refine a_goto cx (tgt := 147) dX3_sheepOf_143 (by decide) ?_
        exact a_iret cx hq dX3_sheepOf_147 ⟨_, ⟨by rw [eA]; try rfl, by exact ⟨(mv_at _ _ _).trans (by rw [eA]), hR.v (Or.inl rfl)⟩⟩, hm⟩ (Nat.zero_le _) (Nat.zero_le _)
    refine a_tabD cx (tgt := 148) dX3_sheepOf_37 (fun i hi => match i, hi with | 0, _ => Or.inr e37_0 | 1, _ => Or.inr e37_1 | 2, _ => Or.inr e37_2 | 3, _ => Or.inr e37_3 | 4, _ => Or.inr e37_4 | 5, _ => Or.inr e37_5 | 6, _ => Or.inr e37_6 | i + 7, hi => absurd hi (by omega)) (by decide) ?_
    have eA : qSheep (σ.2 1) (nI i) f = (2, 0) := by unfold qSheep; rw [if_pos p6, if_neg e37_0, if_neg e37_1, if_neg e37_2, if_neg e37_3, if_neg e37_4, if_neg e37_5, if_neg e37_6]
    refine a_aload_n cx dX3_sheepOf_148 rfl ?_
    refine a_iconst cx (v := 2) dX3_sheepOf_149 (by decide) ?_
    refine m_calli cx (k3_fails cx.htr) (lw_V q2097 q2099 qs35 q87 q2100) dn_X3_fails (RN.of rfl rfl rfl rfl) rfl hm rfl rfl (Nat.le_of_ble_eq_true rfl) dX3_sheepOf_150 (Nat.zero_le _) (Nat.zero_le _) (fun h hm => ?_)
    exact a_iret cx hq dX3_sheepOf_153 ⟨_, ⟨by rw [eA]; try rfl, by exact ⟨(mv_at _ _ _).trans (by rw [eA]), (hR.v (k := 0) (x := 0) (Or.inl rfl)).v (Or.inl rfl)⟩⟩, hm⟩ (Nat.zero_le _) (Nat.zero_le _)
abbrev rm_X3_hutOf : Room := { frames := 4, cells := 0, slots := 0, locals := 88 }
set_option maxHeartbeats 4000000 in
theorem k3_hutOf {l : Launch} {g : GP} {ad : Nat → Nat} {σ : MS} (htr : l.stackTraces = false) {S : ST} {u f : Int32} (hR : RM S σ) (hF : WF (σ.2 1)) : MK l g ad yX3_hutOf cX3_hutOf 3 (some .int) rm_X3_hutOf σ [.int u, .int f] (fun v σ' => QP S (qHut (σ.2 1) u f) v σ') := by
  refine MK.of (by decide +kernel) htr (Nat.le_of_ble_eq_true rfl) (L0 := [some (.ref (ad 0)), some (.int u), some (.int f)]) rfl ?_
  intro M h0 h cx _ hq hm
  obtain ⟨hw1, hw2, hw3, hw4⟩ := id hF.1
  have hw := hF.1
  have ho := hF.2.1
  refine a_aload_n cx dX3_hutOf_0 rfl ?_
  refine a_aload_n cx dX3_hutOf_1 rfl ?_
  refine a_iload_n cx dX3_hutOf_2 rfl ?_
  refine m_calli cx (k3_isHut cx.htr hw) (lw_V q2133 q2135 qs41 q87 q2136) dn_X3_isHut (RN.of rfl rfl rfl rfl) rfl hm rfl rfl (Nat.le_of_ble_eq_true rfl) dX3_hutOf_3 (Nat.zero_le _) (Nat.zero_le _) (fun h hm => ?_)
  refine a_if_eq cx (tgt := 13) dX3_hutOf_6 (by decide) (fun c6 => ?_) (fun c6 => ?_)
  · have eA : qHut (σ.2 1) u f = (1, 0) := if_neg (fun q => by have h9 := (bI_0 _).mp c6; rw [q] at h9; cases h9)
    refine a_iconst cx (v := 1) dX3_hutOf_13 (by decide) ?_
    refine m_put cx (i := 0) fl_X3_53 dX3_hutOf_14 hm rfl rfl rfl (fun h hm => ?_)
    refine a_aload_n cx dX3_hutOf_17 rfl ?_
    refine a_get cx fl_X3_53.g dX3_hutOf_18 hm.o rfl ?_
    refine a_if_le cx (tgt := 26) dX3_hutOf_21 (by decide) (fun c21 => absurd c21 (by rw [mv_at]; decide)) (fun c21 => ?_)
    refine a_iconst cx (v := 0) dX3_hutOf_24 (by decide) ?_
    exact a_iret cx hq dX3_hutOf_25 ⟨_, ⟨by rw [eA]; try rfl, by exact ⟨(mv_at _ _ _).trans (by rw [eA]), hR.v (Or.inl rfl)⟩⟩, hm⟩ (Nat.zero_le _) (Nat.zero_le _)
  · have p6 := bI_n0 c6
    obtain ⟨i, hi, rfl⟩ := (isIx_iff (by omega)).mp p6
    refine a_iconst cx (v := 0) dX3_hutOf_9 (by decide) ?_
    refine a_goto cx (tgt := 14) dX3_hutOf_10 (by decide) ?_
    refine m_put cx (i := 0) fl_X3_53 dX3_hutOf_14 hm rfl rfl rfl (fun h hm => ?_)
    refine a_aload_n cx dX3_hutOf_17 rfl ?_
    refine a_get cx fl_X3_53.g dX3_hutOf_18 hm.o rfl ?_
    refine a_if_le cx (tgt := 26) dX3_hutOf_21 (by decide) (fun c21 => ?_) (fun c21 => absurd (by rw [mv_at]; decide) c21)
    refine a_iload_n cx dX3_hutOf_26 rfl ?_
    by_cases e27_0 : f = 0
    · refine AW.topi e27_0 ?_
      refine a_tabIn cx (tgt := 68) dX3_hutOf_27 (by decide) (by decide) rfl (by decide) ?_
      have eA : qHut (σ.2 1) (nI i) f = (0, (σ.2 1) (81 + i)) := by unfold qHut; rw [if_pos p6, if_pos e27_0, oN_nI (by omega)]
      refine a_aload_n cx dX3_hutOf_68 rfl ?_
      refine a_get cx fl_X3_7.g dX3_hutOf_69 hm.o rfl ?_
      refine a_bipush cx (v := 81) dX3_hutOf_72 (by decide) ?_
      refine a_iload_n cx dX3_hutOf_74 rfl ?_
      refine a_iadd cx dX3_hutOf_75 ?_
      refine a_iald cx dX3_hutOf_76 hm.a1 (ix4 _) (by omega) (by decide) ?_
      exact a_iret cx hq dX3_hutOf_77 ⟨_, ⟨by rw [eA]; try rfl, by exact ⟨(mv_at _ _ _).trans (by rw [eA]), hR.v (Or.inl rfl)⟩⟩, hm⟩ (Nat.zero_le _) (Nat.zero_le _)
    by_cases e27_1 : f = 1
    · refine AW.topi e27_1 ?_
      refine a_tabIn cx (tgt := 78) dX3_hutOf_27 (by decide) (by decide) rfl (by decide) ?_
      have eA : qHut (σ.2 1) (nI i) f = (0, (σ.2 1) (87 + i)) := by unfold qHut; rw [if_pos p6, if_neg e27_0, if_pos e27_1, oN_nI (by omega)]
      refine a_aload_n cx dX3_hutOf_78 rfl ?_
      refine a_get cx fl_X3_7.g dX3_hutOf_79 hm.o rfl ?_
      refine a_bipush cx (v := 87) dX3_hutOf_82 (by decide) ?_
      refine a_iload_n cx dX3_hutOf_84 rfl ?_
      refine a_iadd cx dX3_hutOf_85 ?_
      refine a_iald cx dX3_hutOf_86 hm.a1 (ix5 _) (by omega) (by decide) ?_
      exact a_iret cx hq dX3_hutOf_87 ⟨_, ⟨by rw [eA]; try rfl, by exact ⟨(mv_at _ _ _).trans (by rw [eA]), hR.v (Or.inl rfl)⟩⟩, hm⟩ (Nat.zero_le _) (Nat.zero_le _)
    by_cases e27_2 : f = 2
    · refine AW.topi e27_2 ?_
      refine a_tabIn cx (tgt := 88) dX3_hutOf_27 (by decide) (by decide) rfl (by decide) ?_
      have eA : qHut (σ.2 1) (nI i) f = (0, nI (cnt (σ.2 1) (nI i) (nS (σ.2 1)))) := by unfold qHut; rw [if_pos p6, if_neg e27_0, if_neg e27_1, if_pos e27_2]
      refine a_aload_n cx dX3_hutOf_88 rfl ?_
      refine a_iload_n cx dX3_hutOf_89 rfl ?_
      refine m_calli cx (k3_flock (σ := mv σ 0 0) cx.htr hw) (lw_V q2137 q2139 qs42 q87 q2140) dn_X3_flock (RN.of rfl rfl rfl rfl) rfl hm rfl rfl (Nat.le_of_ble_eq_true rfl) dX3_hutOf_90 (Nat.zero_le _) (Nat.zero_le _) (fun h hm => ?_)
      exact a_iret cx hq dX3_hutOf_93 ⟨_, ⟨by rw [eA]; try rfl, by exact ⟨(mv_at _ _ _).trans (by rw [eA]), hR.v (Or.inl rfl)⟩⟩, hm⟩ (Nat.zero_le _) (Nat.zero_le _)
    by_cases e27_3 : f = 3
    · refine AW.topi e27_3 ?_
      refine a_tabIn cx (tgt := 94) dX3_hutOf_27 (by decide) (by decide) rfl (by decide) ?_
      have eA : qHut (σ.2 1) (nI i) f = (0, wt (σ.2 1) (nI i) (nS (σ.2 1))) := by unfold qHut; rw [if_pos p6, if_neg e27_0, if_neg e27_1, if_neg e27_2, if_pos e27_3]
      refine a_aload_n cx dX3_hutOf_94 rfl ?_
      refine a_iload_n cx dX3_hutOf_95 rfl ?_
      refine m_calli cx (k3_weights (σ := mv σ 0 0) cx.htr hw) (lw_V q2177 q2179 qs48 q87 q2180) dn_X3_weights (RN.of rfl rfl rfl rfl) rfl hm rfl rfl (Nat.le_of_ble_eq_true rfl) dX3_hutOf_96 (Nat.zero_le _) (Nat.zero_le _) (fun h hm => ?_)
      exact a_iret cx hq dX3_hutOf_99 ⟨_, ⟨by rw [eA]; try rfl, by exact ⟨(mv_at _ _ _).trans (by rw [eA]), hR.v (Or.inl rfl)⟩⟩, hm⟩ (Nat.zero_le _) (Nat.zero_le _)
    by_cases e27_4 : f = 4
    · refine AW.topi e27_4 ?_
      refine a_tabIn cx (tgt := 100) dX3_hutOf_27 (by decide) (by decide) rfl (by decide) ?_
      have eA : qHut (σ.2 1) (nI i) f = (0, spr (σ.2 1) i (nS (σ.2 1))) := by unfold qHut; rw [if_pos p6, if_neg e27_0, if_neg e27_1, if_neg e27_2, if_neg e27_3, if_pos e27_4, oN_nI (by omega)]
      refine a_aload_n cx dX3_hutOf_100 rfl ?_
      refine a_iload_n cx dX3_hutOf_101 rfl ?_
      refine m_calli cx (k3_spreadOf (σ := mv σ 0 0) cx.htr (by omega) hw) (lw_V q2181 q2183 qs49 q87 q2184) dn_X3_spreadOf (RN.of rfl rfl rfl rfl) rfl hm rfl rfl (Nat.le_of_ble_eq_true rfl) dX3_hutOf_102 (Nat.zero_le _) (Nat.zero_le _) (fun h hm => ?_)
      exact a_iret cx hq dX3_hutOf_105 ⟨_, ⟨by rw [eA]; try rfl, by exact ⟨(mv_at _ _ _).trans (by rw [eA]), hR.v (Or.inl rfl)⟩⟩, hm⟩ (Nat.zero_le _) (Nat.zero_le _)
    by_cases e27_5 : f = 5
    · refine AW.topi e27_5 ?_
      refine a_tabIn cx (tgt := 106) dX3_hutOf_27 (by decide) (by decide) rfl (by decide) ?_
      have eA : qHut (σ.2 1) (nI i) f = (0, oI (fth (σ.2 1) i (nS (σ.2 1)))) := by unfold qHut; rw [if_pos p6, if_neg e27_0, if_neg e27_1, if_neg e27_2, if_neg e27_3, if_neg e27_4, if_pos e27_5, oN_nI (by omega)]
      refine a_aload_n cx dX3_hutOf_106 rfl ?_
      refine a_iload_n cx dX3_hutOf_107 rfl ?_
      refine m_calli cx (k3_farthest (σ := mv σ 0 0) cx.htr (by omega) hw) (lw_V q2185 q2187 qs50 q87 q2188) dn_X3_farthest (RN.of rfl rfl rfl rfl) rfl hm rfl rfl (Nat.le_of_ble_eq_true rfl) dX3_hutOf_108 (Nat.zero_le _) (Nat.zero_le _) (fun h hm => ?_)
      exact a_iret cx hq dX3_hutOf_111 ⟨_, ⟨by rw [eA]; try rfl, by exact ⟨(mv_at _ _ _).trans (by rw [eA]), hR.v (Or.inl rfl)⟩⟩, hm⟩ (Nat.zero_le _) (Nat.zero_le _)
    by_cases e27_6 : f = 6
    · refine AW.topi e27_6 ?_
      refine a_tabIn cx (tgt := 112) dX3_hutOf_27 (by decide) (by decide) rfl (by decide) ?_
      have eA : qHut (σ.2 1) (nI i) f = (0, nI (dgs (σ.2 1) (nI i) 3)) := by unfold qHut; rw [if_pos p6, if_neg e27_0, if_neg e27_1, if_neg e27_2, if_neg e27_3, if_neg e27_4, if_neg e27_5, if_pos e27_6]
      refine a_aload_n cx dX3_hutOf_112 rfl ?_
      refine a_iload_n cx dX3_hutOf_113 rfl ?_
      refine m_calli cx (k3_dogsAt (σ := mv σ 0 0) cx.htr) (lw_V q2189 q2191 qs51 q87 q2192) dn_X3_dogsAt (RN.of rfl rfl rfl rfl) rfl hm rfl rfl (Nat.le_of_ble_eq_true rfl) dX3_hutOf_114 (Nat.zero_le _) (Nat.zero_le _) (fun h hm => ?_)
      exact a_iret cx hq dX3_hutOf_117 ⟨_, ⟨by rw [eA]; try rfl, by exact ⟨(mv_at _ _ _).trans (by rw [eA]), hR.v (Or.inl rfl)⟩⟩, hm⟩ (Nat.zero_le _) (Nat.zero_le _)
    refine a_tabD cx (tgt := 118) dX3_hutOf_27 (fun i hi => match i, hi with | 0, _ => Or.inr e27_0 | 1, _ => Or.inr e27_1 | 2, _ => Or.inr e27_2 | 3, _ => Or.inr e27_3 | 4, _ => Or.inr e27_4 | 5, _ => Or.inr e27_5 | 6, _ => Or.inr e27_6 | i + 7, hi => absurd hi (by omega)) (by decide) ?_
    have eA : qHut (σ.2 1) (nI i) f = (2, 0) := by unfold qHut; rw [if_pos p6, if_neg e27_0, if_neg e27_1, if_neg e27_2, if_neg e27_3, if_neg e27_4, if_neg e27_5, if_neg e27_6]
    refine a_aload_n cx dX3_hutOf_118 rfl ?_
    refine a_iconst cx (v := 2) dX3_hutOf_119 (by decide) ?_
    refine m_calli cx (k3_fails cx.htr) (lw_V q2097 q2099 qs35 q87 q2100) dn_X3_fails (RN.of rfl rfl rfl rfl) rfl hm rfl rfl (Nat.le_of_ble_eq_true rfl) dX3_hutOf_120 (Nat.zero_le _) (Nat.zero_le _) (fun h hm => ?_)
    exact a_iret cx hq dX3_hutOf_123 ⟨_, ⟨by rw [eA]; try rfl, by exact ⟨(mv_at _ _ _).trans (by rw [eA]), (hR.v (k := 0) (x := 0) (Or.inl rfl)).v (Or.inl rfl)⟩⟩, hm⟩ (Nat.zero_le _) (Nat.zero_le _)
abbrev rm_X3_stray : Room := { frames := 5, cells := 0, slots := 0, locals := 110 }
set_option maxHeartbeats 4000000 in
theorem k3_stray {l : Launch} {g : GP} {ad : Nat → Nat} {σ : MS} (htr : l.stackTraces = false) {S : ST} {u : Int32} (hR : RM S σ) (hF : WF (σ.2 1)) : MK l g ad yX3_stray cX3_stray 4 (some .int) rm_X3_stray σ [.int u] (fun v σ' => QP S (qStray (σ.2 1) u) v σ') := by
  refine MK.of (by decide +kernel) htr (Nat.le_of_ble_eq_true rfl) (L0 := [some (.ref (ad 0)), some (.int u), none, none]) rfl ?_
  intro M h0 h cx _ hq hm
  obtain ⟨hw1, hw2, hw3, hw4⟩ := id hF.1
  have hw := hF.1
  have ho := hF.2.1
  refine a_aload_n cx dX3_stray_0 rfl ?_
  refine a_iconst cx (v := 0) dX3_stray_1 (by decide) ?_
  refine m_put cx (i := 0) fl_X3_53 dX3_stray_2 hm rfl rfl rfl (fun h hm => ?_)
  refine a_iconst cx (v := 0) dX3_stray_5 (by decide) ?_
  refine a_istore_n cx dX3_stray_6 (Nat.le_of_ble_eq_true rfl) rfl ?_
  refine a_iconst cx (v := 0) dX3_stray_7 (by decide) ?_
  refine a_istore_n cx dX3_stray_8 (Nat.le_of_ble_eq_true rfl) rfl ?_
  have loop : ∀ (j k : Nat) (h : AH), k ≤ nS (σ.2 1) → nS (σ.2 1) < k + j → nst (σ.2 1) u k = none → MSt g ad h0 (mv σ 0 0) h → AW g M 0 0 9 [some (.ref (ad 0)), some (.int u), some (.int (nI (strm (σ.2 1) k))), some (.int (nI k))] [] h := by
    intro j
    induction j with
    | zero => intro k h h1 h2; omega
    | succ j ih =>
      intro k h h1 h2 hx hm
      refine a_iload_n cx dX3_stray_9 rfl ?_
      refine a_aload_n cx dX3_stray_10 rfl ?_
      refine a_get cx fl_X3_7.g dX3_stray_11 hm.o rfl ?_
      refine a_iconst cx (v := 0) dX3_stray_14 (by decide) ?_
      refine a_iald cx dX3_stray_15 hm.a1 (show (0 : Int32) = nI 0 from rfl) (by omega) (by decide) ?_
      refine AW.topi hw1 ?_
      refine a_icmp_ge cx (tgt := 46) dX3_stray_16 (by decide) (fun c16 => ?_) (fun c16 => ?_)
      · have d16 := le_nI c16 (by omega) (by omega)
        have e16 : k = nS (σ.2 1) := by omega
        subst e16
        have eA : qStray (σ.2 1) u = (1, 0) := by unfold qStray; rw [hx]
        refine a_aload_n cx dX3_stray_46 rfl ?_
        refine a_iconst cx (v := 1) dX3_stray_47 (by decide) ?_
        refine m_calli cx (k3_fails cx.htr) (lw_V q2097 q2099 qs35 q87 q2100) dn_X3_fails (RN.of rfl rfl rfl rfl) rfl hm rfl rfl (Nat.le_of_ble_eq_true rfl) dX3_stray_48 (Nat.zero_le _) (Nat.zero_le _) (fun h hm => ?_)
        exact a_iret cx hq dX3_stray_51 ⟨_, ⟨by rw [eA]; try rfl, by exact ⟨(mv_at _ _ _).trans (by rw [eA]), (hR.v (k := 0) (x := 0) (Or.inl rfl)).v (Or.inl rfl)⟩⟩, hm⟩ (Nat.zero_le _) (Nat.zero_le _)
      · have d16 := nle_nI c16 (by omega) (by omega)
        refine a_aload_n cx dX3_stray_19 rfl ?_
        refine a_iload_n cx dX3_stray_20 rfl ?_
        refine m_calli cx (k3_isStray (σ := mv σ 0 0) cx.htr (by omega) hw (ho.1 k (by omega))) (lw_V q2169 q2171 qs47 q87 q2172) dn_X3_isStray (RN.of rfl rfl rfl rfl) rfl hm rfl rfl (Nat.le_of_ble_eq_true rfl) dX3_stray_21 (Nat.zero_le _) (Nat.zero_le _) (fun h hm => ?_)
        refine a_if_ne cx (tgt := 30) dX3_stray_24 (by decide) (fun c24 => ?_) (fun c24 => ?_)
        · have p24 : stray (σ.2 1) k = true := bI_n0 c24
          have r : strm (σ.2 1) (k + 1) = strm (σ.2 1) k + 1 := by rw [strm, if_pos p24]
          refine a_iload_n cx dX3_stray_30 rfl ?_
          refine a_iload_n cx dX3_stray_31 rfl ?_
          refine a_icmp_ne cx (tgt := 37) dX3_stray_32 (by decide) (fun c32 => ?_) (fun c32 => ?_)
          · have r2 : nst (σ.2 1) u (k + 1) = none := by rw [nst, hx]; exact if_neg (fun q => c32 q.2)
            refine a_iincN cx dX3_stray_37 rfl (Nat.le_of_ble_eq_true rfl) rfl ?_
            refine a_iincN cx dX3_stray_40 rfl (Nat.le_of_ble_eq_true rfl) rfl ?_
            refine a_goto cx (tgt := 9) dX3_stray_43 (by decide) ?_
            have q9 := ih (k + 1) h (by omega) (by omega) r2 hm
            rw [r] at q9
            exact q9
          · have r3 : nst (σ.2 1) u (k + 1) = some k := by rw [nst, hx]; exact if_pos ⟨p24, c32⟩
            have eA : qStray (σ.2 1) u = (0, nI k) := by unfold qStray; rw [nst_up r3 _ d16]
            refine a_iload_n cx dX3_stray_35 rfl ?_
            exact a_iret cx hq dX3_stray_36 ⟨_, ⟨by rw [eA]; try rfl, by exact ⟨(mv_at _ _ _).trans (by rw [eA]), hR.v (Or.inl rfl)⟩⟩, hm⟩ (Nat.zero_le _) (Nat.zero_le _)
        · have p24 : stray (σ.2 1) k = false := (bI_0 _).mp c24
          have r : strm (σ.2 1) (k + 1) = strm (σ.2 1) k := by rw [strm, if_neg (by rw [p24]; decide)]; rfl
          have r2 : nst (σ.2 1) u (k + 1) = none := by rw [nst, hx]; exact if_neg (fun q => by rw [p24] at q; cases q.1)
          refine a_goto cx (tgt := 40) dX3_stray_27 (by decide) ?_
          refine a_iincN cx dX3_stray_40 rfl (Nat.le_of_ble_eq_true rfl) rfl ?_
          refine a_goto cx (tgt := 9) dX3_stray_43 (by decide) ?_
          have q9 := ih (k + 1) h (by omega) (by omega) r2 hm
          rw [r] at q9
          exact q9
  exact loop (nS (σ.2 1) + 1 - 0) 0 h (by omega) (by omega) rfl (hm.eq (by rfl))
abbrev rm_X3_ranked : Room := { frames := 2, cells := 0, slots := 0, locals := 45 }
set_option maxHeartbeats 4000000 in
theorem k3_ranked {l : Launch} {g : GP} {ad : Nat → Nat} {σ : MS} (htr : l.stackTraces = false) {S : ST} {u : Int32} (hR : RM S σ) (hF : WF (σ.2 1)) : MK l g ad yX3_ranked cX3_ranked 5 (some .int) rm_X3_ranked σ [.int u] (fun v σ' => QP S (qRanked (σ.2 1) u) v σ') := by
  refine MK.of (by decide +kernel) htr (Nat.le_of_ble_eq_true rfl) (L0 := [some (.ref (ad 0)), some (.int u), none, none, none]) rfl ?_
  intro M h0 h cx _ hq hm
  obtain ⟨hw1, hw2, hw3, hw4⟩ := id hF.1
  have hw := hF.1
  have ho := hF.2.1
  refine a_aload_n cx dX3_ranked_0 rfl ?_
  refine a_iconst cx (v := 0) dX3_ranked_1 (by decide) ?_
  refine m_put cx (i := 0) fl_X3_53 dX3_ranked_2 hm rfl rfl rfl (fun h hm => ?_)
  refine a_iconst cx (v := 0) dX3_ranked_5 (by decide) ?_
  refine a_istore_n cx dX3_ranked_6 (Nat.le_of_ble_eq_true rfl) rfl ?_
  have loop : ∀ (j k : Nat) (h : AH), k ≤ nH (σ.2 1) → nH (σ.2 1) < k + j → rkd (σ.2 1) u k = none → MSt g ad h0 (mv σ 0 0) h → AW g M 0 0 7 [some (.ref (ad 0)), some (.int u), some (.int (nI k)), none, none] [] h := by
    intro j
    induction j with
    | zero => intro k h h1 h2; omega
    | succ j ih =>
      intro k h h1 h2 hx hm
      refine a_iload_n cx dX3_ranked_7 rfl ?_
      refine a_aload_n cx dX3_ranked_8 rfl ?_
      refine a_get cx fl_X3_7.g dX3_ranked_9 hm.o rfl ?_
      refine a_iconst cx (v := 1) dX3_ranked_12 (by decide) ?_
      refine a_iald cx dX3_ranked_13 hm.a1 (show (1 : Int32) = nI 1 from rfl) (by omega) (by decide) ?_
      refine AW.topi hw3 ?_
      refine a_icmp_ge cx (tgt := 76) dX3_ranked_14 (by decide) (fun c14 => ?_) (fun c14 => ?_)
      · have d14 := le_nI c14 (by omega) (by omega)
        have e14 : k = nH (σ.2 1) := by omega
        subst e14
        have eA : qRanked (σ.2 1) u = (1, 0) := by unfold qRanked; rw [hx]
        refine a_aload_n cx dX3_ranked_76 rfl ?_
        refine a_iconst cx (v := 1) dX3_ranked_77 (by decide) ?_
        refine m_calli cx (k3_fails cx.htr) (lw_V q2097 q2099 qs35 q87 q2100) dn_X3_fails (RN.of rfl rfl rfl rfl) rfl hm rfl rfl (Nat.le_of_ble_eq_true rfl) dX3_ranked_78 (Nat.zero_le _) (Nat.zero_le _) (fun h hm => ?_)
        exact a_iret cx hq dX3_ranked_81 ⟨_, ⟨by rw [eA]; try rfl, by exact ⟨(mv_at _ _ _).trans (by rw [eA]), (hR.v (k := 0) (x := 0) (Or.inl rfl)).v (Or.inl rfl)⟩⟩, hm⟩ (Nat.zero_le _) (Nat.zero_le _)
      · have d14 := nle_nI c14 (by omega) (by omega)
        refine a_iconst cx (v := 0) dX3_ranked_17 (by decide) ?_
        refine a_istore_n cx dX3_ranked_18 (Nat.le_of_ble_eq_true rfl) rfl ?_
        refine a_iconst cx (v := 0) dX3_ranked_19 (by decide) ?_
        refine a_istore cx dX3_ranked_20 (Nat.le_of_ble_eq_true rfl) rfl ?_
        have loop2 : ∀ (j i : Nat) (h : AH), i ≤ nH (σ.2 1) → nH (σ.2 1) < i + j → MSt g ad h0 (mv σ 0 0) h → AW g M 0 0 22 [some (.ref (ad 0)), some (.int u), some (.int (nI k)), some (.int (nI (rnk (σ.2 1) k i))), some (.int (nI i))] [] h := by
          intro j
          induction j with
          | zero => intro i h h1 h2; omega
          | succ j ih2 =>
            intro i h h1 h2 hm
            refine a_iload cx dX3_ranked_22 rfl ?_
            refine a_aload_n cx dX3_ranked_24 rfl ?_
            refine a_get cx fl_X3_7.g dX3_ranked_25 hm.o rfl ?_
            refine a_iconst cx (v := 1) dX3_ranked_28 (by decide) ?_
            refine a_iald cx dX3_ranked_29 hm.a1 (show (1 : Int32) = nI 1 from rfl) (by omega) (by decide) ?_
            refine AW.topi hw3 ?_
            refine a_icmp_ge cx (tgt := 63) dX3_ranked_30 (by decide) (fun c30 => ?_) (fun c30 => ?_)
            · have d30 := le_nI c30 (by omega) (by omega)
              have e30 : i = nH (σ.2 1) := by omega
              subst e30
              refine a_iload_n cx dX3_ranked_63 rfl ?_
              refine a_iload_n cx dX3_ranked_64 rfl ?_
              refine a_icmp_ne cx (tgt := 70) dX3_ranked_65 (by decide) (fun c65 => ?_) (fun c65 => ?_)
              · have r2 : rkd (σ.2 1) u (k + 1) = none := by rw [rkd, hx]; exact if_neg c65
                refine a_iincN cx dX3_ranked_70 rfl (Nat.le_of_ble_eq_true rfl) rfl ?_
                refine a_goto cx (tgt := 7) dX3_ranked_73 (by decide) ?_
                exact (ih (k + 1) h (by omega) (by omega) r2 hm).loc (by exact ⟨rfl, rfl, rfl, trivial⟩)
              · have r3 : rkd (σ.2 1) u (k + 1) = some k := by rw [rkd, hx]; exact if_pos c65
                have eA : qRanked (σ.2 1) u = (0, nI k) := by unfold qRanked; rw [rkd_up r3 _ d14]
                refine a_iload_n cx dX3_ranked_68 rfl ?_
                exact a_iret cx hq dX3_ranked_69 ⟨_, ⟨by rw [eA]; try rfl, by exact ⟨(mv_at _ _ _).trans (by rw [eA]), hR.v (Or.inl rfl)⟩⟩, hm⟩ (Nat.zero_le _) (Nat.zero_le _)
            · have d30 := nle_nI c30 (by omega) (by omega)
              refine a_iload_n cx dX3_ranked_33 rfl ?_
              refine a_iload cx dX3_ranked_34 rfl ?_
              refine a_iload_n cx dX3_ranked_36 rfl ?_
              refine a_icmp_eq cx (tgt := 54) dX3_ranked_37 (by decide) (fun c37 => ?_) (fun c37 => ?_)
              · have e37 : i = k := nI_inj (by omega) (by omega) c37
                have r : nI (rnk (σ.2 1) k i) + 0 = nI (rnk (σ.2 1) k (i + 1)) := by rw [rnk, if_neg (fun q => q.1 e37)]; exact nI_add _ 0
                refine a_iconst cx (v := 0) dX3_ranked_54 (by decide) ?_
                refine a_iadd cx dX3_ranked_55 ?_
                refine AW.topi r ?_
                refine a_istore_n cx dX3_ranked_56 (Nat.le_of_ble_eq_true rfl) rfl ?_
                refine a_iincN cx dX3_ranked_57 rfl (Nat.le_of_ble_eq_true rfl) rfl ?_
                refine a_goto cx (tgt := 22) dX3_ranked_60 (by decide) ?_
                exact ih2 (i + 1) h (by omega) (by omega) hm
              · have e37 : i ≠ k := fun q => c37 (by rw [q])
                refine a_aload_n cx dX3_ranked_40 rfl ?_
                refine a_iload cx dX3_ranked_41 rfl ?_
                refine a_iload_n cx dX3_ranked_43 rfl ?_
                refine m_calli cx (k3_isAhead (σ := mv σ 0 0) cx.htr (by omega) (by omega) hw) (lw_V q2305 q2307 qs65 q87 q2308) dn_X3_isAhead (RN.of rfl rfl rfl rfl) rfl hm rfl rfl (Nat.le_of_ble_eq_true rfl) dX3_ranked_44 (Nat.zero_le _) (Nat.zero_le _) (fun h hm => ?_)
                refine a_if_eq cx (tgt := 54) dX3_ranked_47 (by decide) (fun c47 => ?_) (fun c47 => ?_)
                · have p47 : ahead (σ.2 1) i k = false := (bI_0 _).mp c47
                  have r : nI (rnk (σ.2 1) k i) + 0 = nI (rnk (σ.2 1) k (i + 1)) := by rw [rnk, if_neg (fun q => by have := q.2; rw [p47] at this; cases this)]; exact nI_add _ 0
                  refine a_iconst cx (v := 0) dX3_ranked_54 (by decide) ?_
                  refine a_iadd cx dX3_ranked_55 ?_
                  refine AW.topi r ?_
                  refine a_istore_n cx dX3_ranked_56 (Nat.le_of_ble_eq_true rfl) rfl ?_
                  refine a_iincN cx dX3_ranked_57 rfl (Nat.le_of_ble_eq_true rfl) rfl ?_
                  refine a_goto cx (tgt := 22) dX3_ranked_60 (by decide) ?_
                  exact ih2 (i + 1) h (by omega) (by omega) hm
                · have p47 : ahead (σ.2 1) i k = true := bI_n0 c47
                  have r : nI (rnk (σ.2 1) k i) + 1 = nI (rnk (σ.2 1) k (i + 1)) := by rw [rnk, if_pos ⟨e37, p47⟩]; exact nI_add _ 1
                  refine a_iconst cx (v := 1) dX3_ranked_50 (by decide) ?_
                  refine a_goto cx (tgt := 55) dX3_ranked_51 (by decide) ?_
                  refine a_iadd cx dX3_ranked_55 ?_
                  refine AW.topi r ?_
                  refine a_istore_n cx dX3_ranked_56 (Nat.le_of_ble_eq_true rfl) rfl ?_
                  refine a_iincN cx dX3_ranked_57 rfl (Nat.le_of_ble_eq_true rfl) rfl ?_
                  refine a_goto cx (tgt := 22) dX3_ranked_60 (by decide) ?_
                  exact ih2 (i + 1) h (by omega) (by omega) hm
        exact loop2 (nH (σ.2 1) + 1 - 0) 0 h (by omega) (by omega) (hm.eq (by rfl))
  exact loop (nH (σ.2 1) + 1 - 0) 0 h (by omega) (by omega) rfl (hm.eq (by rfl))
abbrev rm_X3_isRight : Room := { frames := 6, cells := 0, slots := 0, locals := 135 }
set_option maxHeartbeats 4000000 in
theorem k3_isRight {l : Launch} {g : GP} {ad : Nat → Nat} {σ : MS} (htr : l.stackTraces = false) {S : ST}  (hR : RM S σ) (hF : WF (σ.2 1)) : MK l g ad yX3_isRight cX3_isRight 1 (some .boolean) rm_X3_isRight σ [] (fun v σ' => QP S ((0, bI (qRight (σ.2 1)))) v σ') := by
  refine MK.of (by decide +kernel) htr (Nat.le_of_ble_eq_true rfl) (L0 := [some (.ref (ad 0))]) rfl ?_
  intro M h0 h cx _ hq hm
  obtain ⟨hw1, hw2, hw3, hw4⟩ := id hF.1
  have hw := hF.1
  have ho := hF.2.1
  refine a_aload_n cx dX3_isRight_0 rfl ?_
  refine a_iconst cx (v := 0) dX3_isRight_1 (by decide) ?_
  refine m_put cx (i := 0) fl_X3_53 dX3_isRight_2 hm rfl rfl rfl (fun h hm => ?_)
  refine a_aload_n cx dX3_isRight_5 rfl ?_
  refine m_call cx (k3_isStillNow (σ := mv σ 0 0) cx.htr hF) (lw_V q2225 q2227 qs58 q87 q2228) dn_X3_isStillNow (RN.of rfl rfl rfl rfl) rfl hm rfl rfl (Nat.le_of_ble_eq_true rfl) dX3_isRight_6 (Nat.zero_le _) (Nat.zero_le _) (fun v9 τ h hp hm => ?_)
  obtain ⟨rfl, hx⟩ := hp
  refine a_if_eq cx (tgt := 19) dX3_isRight_9 (by decide) (fun c9 => ?_) (fun c9 => ?_)
  · have p9 := (bI_0 _).mp c9
    have r : (1 : Int32) = bI (qRight (σ.2 1)) := by unfold qRight; rw [show still (σ.2 1) = false from p9]; rfl
    refine a_iconst cx (v := 1) dX3_isRight_19 (by decide) ?_
    refine a_goto cx (tgt := 24) dX3_isRight_20 (by decide) ?_
    exact a_zret cx hq dX3_isRight_24 rfl ⟨_, ⟨by exact congrArg (fun z => some (Value.int z)) r, by exact ⟨(congrFun hx.1 0).trans (mv_at _ _ _), (hR.v (k := 0) (x := 0) (Or.inl rfl)).scr hx⟩⟩, hm⟩ (Nat.zero_le _) (Nat.zero_le _)
  · have p9 : still (σ.2 1) = true := bI_n0 c9
    refine a_aload_n cx dX3_isRight_12 rfl ?_
    refine m_calli cx (k3_strayMany (σ := τ) cx.htr (by rw [hx.row]; exact hw) (by rw [hx.row]; exact ho.1)) (lw_V q2269 q2271 qs62 q87 q2272) dn_X3_strayMany (RN.of rfl rfl rfl rfl) rfl hm rfl rfl (Nat.le_of_ble_eq_true rfl) dX3_isRight_13 (Nat.zero_le _) (Nat.zero_le _) (fun h hm => ?_)
    rw [hx.row]
    refine a_if_ne cx (tgt := 23) dX3_isRight_16 (by decide) (fun c16 => ?_) (fun c16 => ?_)
    · have r : (0 : Int32) = bI (qRight (σ.2 1)) := by unfold qRight; rw [p9, show (strm (σ.2 1) (nS (σ.2 1)) == 0) = false from by rw [beq_eq_false_iff_ne]; exact fun q => c16 (by show nI (strm (σ.2 1) (nS (σ.2 1))) = 0; rw [q]; rfl)]; rfl
      refine a_iconst cx (v := 0) dX3_isRight_23 (by decide) ?_
      exact a_zret cx hq dX3_isRight_24 rfl ⟨_, ⟨by exact congrArg (fun z => some (Value.int z)) r, by exact ⟨(congrFun hx.1 0).trans (mv_at _ _ _), (hR.v (k := 0) (x := 0) (Or.inl rfl)).scr hx⟩⟩, hm⟩ (Nat.zero_le _) (Nat.zero_le _)
    · have r : (1 : Int32) = bI (qRight (σ.2 1)) := by
        have b9 := strm_le (σ.2 1) (nS (σ.2 1))
        have z9 : strm (σ.2 1) (nS (σ.2 1)) = 0 := nI_inj (by omega) (by decide) c16
        unfold qRight
        rw [p9, z9]; rfl
      refine a_iconst cx (v := 1) dX3_isRight_19 (by decide) ?_
      refine a_goto cx (tgt := 24) dX3_isRight_20 (by decide) ?_
      exact a_zret cx hq dX3_isRight_24 rfl ⟨_, ⟨by exact congrArg (fun z => some (Value.int z)) r, by exact ⟨(congrFun hx.1 0).trans (mv_at _ _ _), (hR.v (k := 0) (x := 0) (Or.inl rfl)).scr hx⟩⟩, hm⟩ (Nat.zero_le _) (Nat.zero_le _)

