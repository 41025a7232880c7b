/-! THE CLASS: more questions -/
set_option maxRecDepth 100000
abbrev rm_J2_indexOfRangen : Room := { frames := 0, cells := 0, slots := 0, locals := 0 }
set_option maxHeartbeats 4000000 in
theorem j2_indexOfRangen {lx : Launch} {g : GP} {h : AH} (htr : lx.stackTraces = false) {a ed cap : Nat} {mc : Int32} {l : List Nat} (hl : AL g h a ed mc cap l) : KT lx g yJ2_indexOfRange (ws_ yJ2_indexOfRange cJ2_indexOfRange 6 (some .int)) rm_J2_indexOfRangen 0 0 [.ref a, .null, .int (nI 0), .int (nI l.length)] h (isP (.int (-1)) h) (noX) := by
  refine KT.of (by decide +kernel) htr (Nat.le_of_ble_eq_true rfl) (L0 := [some (.ref a), some (.null), some (.int (nI 0)), some (.int (nI l.length)), none, none]) rfl ?_
  intro M cx hl9 hq hin hnx
  obtain ⟨ha, ⟨f, he, hf⟩, hlc, hc100, hc0⟩ := hl
  refine a_aload_n cx dJ2_indexOfRange_0 rfl ?_
  refine a_get cx fl_J2_9.g dJ2_indexOfRange_1 (by assumption) (by exact rfl) ?_
  refine a_astore cx dJ2_indexOfRange_4 (Nat.le_of_ble_eq_true rfl) rfl ?_
  refine a_aload_n cx dJ2_indexOfRange_6 rfl ?_
  refine a_ifnonnullN cx dJ2_indexOfRange_7 ?_
  refine a_iload_n cx dJ2_indexOfRange_10 rfl ?_
  refine a_istore cx dJ2_indexOfRange_11 (Nat.le_of_ble_eq_true rfl) rfl ?_
  have loop : ∀ (j k : Nat), k ≤ l.length → l.length < k + j → AW g M 0 0 13 [some (.ref a), some .null, some (.int (nI 0)), some (.int (nI l.length)), some (.ref ed), some (.int (nI k))] [] h := by
    intro j
    induction j with
    | zero => intro k h1 h2; omega
    | succ j ih =>
      intro k h1 h2
      refine a_iload cx dJ2_indexOfRange_13 rfl ?_
      refine a_iload_n cx dJ2_indexOfRange_15 rfl ?_
      refine a_icmp_ge cx (tgt := 36) dJ2_indexOfRange_16 (by decide) (fun c16 => ?_) (fun c16 => ?_)
      · have d16 := le_nI c16 (by omega) (by omega)
        refine a_goto cx (tgt := 69) dJ2_indexOfRange_36 (by decide) ?_
        refine a_iconst cx (v := -1) dJ2_indexOfRange_69 (by decide) ?_
        exact a_iret cx hq dJ2_indexOfRange_70 ⟨rfl, rfl⟩ (Nat.le_of_ble_eq_true rfl) (Nat.le_of_ble_eq_true rfl)
      · have d16 := nle_nI c16 (by omega) (by omega)
        refine a_aload cx dJ2_indexOfRange_19 rfl ?_
        refine a_iload cx dJ2_indexOfRange_21 rfl ?_
        refine a_aald cx dJ2_indexOfRange_23 he rfl (by omega) (by omega) ?_
        refine AW.top (show va_rf (f k) = .ref (l.getD k 0) by rw [hf k d16]; rfl) ?_
        refine a_ifnonnull cx (tgt := 30) dJ2_indexOfRange_24 (by decide) ?_
        refine a_iincN cx dJ2_indexOfRange_30 rfl (Nat.le_of_ble_eq_true rfl) rfl ?_
        refine a_goto cx (tgt := 13) dJ2_indexOfRange_33 (by decide) ?_
        exact ih (k + 1) (by omega) (by omega)
  exact loop (l.length + 1) 0 (by omega) (by omega)
abbrev rm_J2_indexOfn : Room := { frames := 1, cells := 0, slots := 0, locals := 25 }
set_option maxHeartbeats 4000000 in
theorem j2_indexOfn {lx : Launch} {g : GP} {h : AH} (htr : lx.stackTraces = false) {a ed cap : Nat} {mc : Int32} {l : List Nat} (hl : AL g h a ed mc cap l) : KT lx g yJ2_indexOf (ws_ yJ2_indexOf cJ2_indexOf 2 (some .int)) rm_J2_indexOfn 0 0 [.ref a, .null] h (isP (.int (-1)) h) (noX) := by
  refine KT.of (by decide +kernel) htr (Nat.le_of_ble_eq_true rfl) (L0 := [some (.ref a), some (.null)]) rfl ?_
  intro M cx hl9 hq hin hnx
  have ha := hl.1
  refine a_aload_n cx dJ2_indexOf_0 rfl ?_
  refine a_aload_n cx dJ2_indexOf_1 rfl ?_
  refine a_iconst cx (v := 0) dJ2_indexOf_2 (by decide) ?_
  refine a_aload_n cx dJ2_indexOf_3 rfl ?_
  refine a_get cx fl_J2_48.g dJ2_indexOf_4 (by assumption) (by exact rfl) ?_
  refine c_V cx (j2_indexOfRangen cx.htr hl) (lw_V q1328 q1329 q1330 q81 q1331) dn_J2_indexOfRange (RN.of rfl rfl rfl rfl) rfl (by assumption) rfl rfl rfl (Nat.le_of_ble_eq_true rfl) dJ2_indexOf_7 (Nat.le_of_ble_eq_true rfl) (Nat.le_of_ble_eq_true rfl) (pK ?_) (fun E9 q9 h9 hx9 => hx9.elim)
  exact a_iret cx hq dJ2_indexOf_10 ⟨rfl, rfl⟩ (Nat.le_of_ble_eq_true rfl) (Nat.le_of_ble_eq_true rfl)
theorem qSheep_x {s : SF} {u w : Int32} (h : isIx u (nS s) = false) : qSheep s u w = (1, 0) := if_neg (by rw [h]; decide)
theorem qHut_x {s : SF} {u w : Int32} (h : isIx u (nH s) = false) : qHut s u w = (1, 0) := if_neg (by rw [h]; decide)
abbrev rm_X1_sheepOf : Room := { frames := 10, cells := 4, slots := 40, locals := 200 }
set_option maxHeartbeats 4000000 in
theorem f1_sheepOf {lx : Launch} {g : GP} {h : AH} (htr : lx.stackTraces = false) {hb : AH} {f a ea ca b eb cb d : Nat} {ma mb : Int32} {ls lh : List Nat} {s : SF} (hF : FA g hb h f s a ea ma ca b eb mb cb d ls lh) (hWF : WF s) {x dq sb ln : Nat} {sv er re : Option Nat} {it : Int32} (hx : h x = some (clE f dq sv sb ln er it re)) {u w : Int32} : KT lx g yX1_sheepOf (ws_ yX1_sheepOf cX1_sheepOf 4 (some .int)) rm_X1_sheepOf 4 40 [.ref x, .int u, .int w] h (QA h (qSheep s u w)) (XQ h (qSheep s u w) (ex2 "java/lang/IndexOutOfBoundsException" "java/lang/IllegalArgumentException")) := by
  refine KT.of (by decide +kernel) htr (Nat.le_of_ble_eq_true rfl) (L0 := [some (.ref x), some (.int u), some (.int w), none]) rfl ?_
  intro M cx hl9 hq hin hnx
  have hR1 : rm_X1_sheepOf.cells = 4 := rfl
  have hR2 : rm_X1_sheepOf.slots = 40 := rfl
  refine AW.hk fun hk9 => ?_
  have hS := hWF.1
  have hP := hWF.2.2
  have hn := hS.2.1
  have hm := hS.2.2.2
  refine a_aload_n cx dX1_sheepOf_0 rfl ?_
  refine a_get cx fl_X1_37.g dX1_sheepOf_1 (by assumption) (by exact rfl) ?_
  refine a_iload_n cx dX1_sheepOf_4 rfl ?_
  refine c_V cx (f2_sheep cx.htr hF hn) (lw_V q1472 q1219 q1220 q78 q1221) dn_X2_sheep (RN.of rfl rfl rfl rfl) rfl hF.o rfl rfl rfl (Nat.le_of_ble_eq_true rfl) dX1_sheepOf_5 (by omega) (by omega) (fun v9 h hp9 => ?_) (fun E9 q9 h9 hx9 => AX.out cx hq hnx (XQ.of sub.rf hx9 (fun z => by rw [qSheep_x z]; exact ⟨n1_0, rfl⟩)) (by omega) (by omega))
  obtain ⟨k, hk, ek, rfl, e5⟩ := hp9
  rw [e5]
  subst ek
  have hsh := hF.sh hk
  have p5 : isIx (nI k) (nS s) = true := (isIx_iff (by omega)).mpr ⟨k, hk, rfl⟩
  refine a_astore_n cx dX1_sheepOf_8 (Nat.le_of_ble_eq_true rfl) rfl ?_
  refine a_iload_n cx dX1_sheepOf_9 rfl ?_
  by_cases e10_0 : w = 0
  · refine AW.topi e10_0 ?_
    refine a_tabIn cx (tgt := 52) dX1_sheepOf_10 (by decide) (by decide) rfl (by decide) ?_
    have hA : qSheep s (nI k) w = (0, s (9 + k)) := by unfold qSheep; rw [if_pos p5, if_pos e10_0, oN_nI (by omega)]
    refine a_aload_n cx dX1_sheepOf_52 rfl ?_
    refine a_get cx fl_X1_131 dX1_sheepOf_53 hsh (by exact rfl) ?_
    exact a_iret cx hq dX1_sheepOf_56 ⟨by rw [hA], sub.rf, by rw [hA]⟩ (by omega) (by omega)
  by_cases e10_1 : w = 1
  · refine AW.topi e10_1 ?_
    refine a_tabIn cx (tgt := 57) dX1_sheepOf_10 (by decide) (by decide) rfl (by decide) ?_
    have hA : qSheep s (nI k) w = (0, s (27 + k)) := by unfold qSheep; rw [if_pos p5, if_neg e10_0, if_pos e10_1, oN_nI (by omega)]
    refine a_aload_n cx dX1_sheepOf_57 rfl ?_
    refine a_get cx fl_X1_136 dX1_sheepOf_58 hsh (by exact rfl) ?_
    exact a_iret cx hq dX1_sheepOf_61 ⟨by rw [hA], sub.rf, by rw [hA]⟩ (by omega) (by omega)
  by_cases e10_2 : w = 2
  · refine AW.topi e10_2 ?_
    refine a_tabIn cx (tgt := 62) dX1_sheepOf_10 (by decide) (by decide) rfl (by decide) ?_
    have hA : qSheep s (nI k) w = (0, s (45 + k)) := by unfold qSheep; rw [if_pos p5, if_neg e10_0, if_neg e10_1, if_pos e10_2, oN_nI (by omega)]
    refine a_aload_n cx dX1_sheepOf_62 rfl ?_
    refine a_get cx fl_X1_139.g dX1_sheepOf_63 hsh (by exact rfl) ?_
    exact a_iret cx hq dX1_sheepOf_66 ⟨by rw [hA], sub.rf, by rw [hA]⟩ (by omega) (by omega)
  by_cases e10_3 : w = 3
  · refine AW.topi e10_3 ?_
    refine a_tabIn cx (tgt := 67) dX1_sheepOf_10 (by decide) (by decide) rfl (by decide) ?_
    have hA : qSheep s (nI k) w = (0, s (63 + k)) := by unfold qSheep; rw [if_pos p5, if_neg e10_0, if_neg e10_1, if_neg e10_2, if_pos e10_3, oN_nI (by omega)]
    refine a_aload_n cx dX1_sheepOf_67 rfl ?_
    refine a_get cx fl_X1_142.g dX1_sheepOf_68 hsh (by exact rfl) ?_
    exact a_iret cx hq dX1_sheepOf_71 ⟨by rw [hA], sub.rf, by rw [hA]⟩ (by omega) (by omega)
  by_cases e10_4 : w = 4
  · refine AW.topi e10_4 ?_
    refine a_tabIn cx (tgt := 72) dX1_sheepOf_10 (by decide) (by decide) rfl (by decide) ?_
    have hA : qSheep s (nI k) w = (0, farO s k) := by unfold qSheep; rw [if_pos p5, if_neg e10_0, if_neg e10_1, if_neg e10_2, if_neg e10_3, if_pos e10_4, oN_nI (by omega)]
    refine a_aload_n cx dX1_sheepOf_72 rfl ?_
    refine a_get cx fl_X1_37.g dX1_sheepOf_73 (by assumption) (by exact rfl) ?_
    refine a_aload_n cx dX1_sheepOf_76 rfl ?_
    refine c_V cx (f2_distance cx.htr hF hn hm hk (hWF.2.1.1 k hk)) (lw_V q1473 q733 q734 q78 q735) dn_X2_distance (RN.of rfl rfl rfl rfl) rfl hF.o rfl rfl rfl (Nat.le_of_ble_eq_true rfl) dX1_sheepOf_77 (by omega) (by omega) (pK ?_) (fun E9 q9 h9 hx9 => hx9.elim)
    exact a_iret cx hq dX1_sheepOf_80 ⟨by rw [hA], sub.rf, by rw [hA]⟩ (by omega) (by omega)
  by_cases e10_5 : w = 5
  · refine AW.topi e10_5 ?_
    refine a_tabIn cx (tgt := 81) dX1_sheepOf_10 (by decide) (by decide) rfl (by decide) ?_
    have hA : qSheep s (nI k) w = (0, oI (nearO s k)) := by unfold qSheep; rw [if_pos p5, if_neg e10_0, if_neg e10_1, if_neg e10_2, if_neg e10_3, if_neg e10_4, if_pos e10_5, oN_nI (by omega)]
    refine a_aload_n cx dX1_sheepOf_81 rfl ?_
    refine a_get cx fl_X1_37.g dX1_sheepOf_82 (by assumption) (by exact rfl) ?_
    refine a_aload_n cx dX1_sheepOf_85 rfl ?_
    refine c_V cx (f2_nearests cx.htr hF hn hm hsh) (lw_V q1474 q635 q636 q78 q637) dn_X2_nearest (RN.of rfl rfl rfl rfl) rfl hF.o rfl rfl rfl (Nat.le_of_ble_eq_true rfl) dX1_sheepOf_86 (by omega) (by omega) (pK ?_) (fun E9 q9 h9 hx9 => hx9.elim)
    exact a_iret cx hq dX1_sheepOf_89 ⟨by rw [hA]; rfl, sub.rf, by rw [hA]⟩ (by omega) (by omega)
  by_cases e10_6 : w = 6
  · refine AW.topi e10_6 ?_
    refine a_tabIn cx (tgt := 90) dX1_sheepOf_10 (by decide) (by decide) rfl (by decide) ?_
    have hA : qSheep s (nI k) w = (0, bI (stray s k)) := by unfold qSheep; rw [if_pos p5, if_neg e10_0, if_neg e10_1, if_neg e10_2, if_neg e10_3, if_neg e10_4, if_neg e10_5, if_pos e10_6, oN_nI (by omega)]
    refine a_aload_n cx dX1_sheepOf_90 rfl ?_
    refine a_get cx fl_X1_37.g dX1_sheepOf_91 (by assumption) (by exact rfl) ?_
    refine a_aload_n cx dX1_sheepOf_94 rfl ?_
    refine c_V cx (f2_isStray cx.htr hF hn hm hk (hWF.2.1.1 k hk)) (lw_V q1475 q779 q780 q78 q781) dn_X2_isStray (RN.of rfl rfl rfl rfl) rfl hF.o rfl rfl rfl (Nat.le_of_ble_eq_true rfl) dX1_sheepOf_95 (by omega) (by omega) (pK ?_) (fun E9 q9 h9 hx9 => hx9.elim)
    refine a_if_eq cx (tgt := 105) dX1_sheepOf_98 (by decide) (fun c98 => ?_) (fun c98 => ?_)
    · rw [(bI_0 _).mp c98] at hA
      refine a_iconst cx (v := 0) dX1_sheepOf_105 (by decide) ?_
      exact a_iret cx hq dX1_sheepOf_106 ⟨by rw [hA]; rfl, sub.rf, by rw [hA]⟩ (by omega) (by omega)
    · rw [bI_n0 c98] at hA
      refine a_iconst cx (v := 1) dX1_sheepOf_101 (by decide) ?_
      refine a_goto cx (tgt := 106) dX1_sheepOf_102 (by decide) ?_
      exact a_iret cx hq dX1_sheepOf_106 ⟨by rw [hA]; rfl, sub.rf, by rw [hA]⟩ (by omega) (by omega)
  refine a_tabD cx (tgt := 107) dX1_sheepOf_10 (fun i hi => match i, hi with | 0, _ => Or.inr e10_0 | 1, _ => Or.inr e10_1 | 2, _ => Or.inr e10_2 | 3, _ => Or.inr e10_3 | 4, _ => Or.inr e10_4 | 5, _ => Or.inr e10_5 | 6, _ => Or.inr e10_6 | i + 7, hi => absurd hi (by omega)) (by decide) ?_
  have hA : qSheep s (nI k) w = (2, 0) := by unfold qSheep; rw [if_pos p5, if_neg e10_0, if_neg e10_1, if_neg e10_2, if_neg e10_3, if_neg e10_4, if_neg e10_5, if_neg e10_6]
  exact t_IAE cx hq dX1_sheepOf_107 dX1_sheepOf_110 dX1_sheepOf_111 dX1_sheepOf_114 (fun x hx => (hnx x hx).elim) (by decide) (Nat.le_of_ble_eq_true rfl) (by omega) (by omega) (fun q => ⟨by rw [hA]; rfl, sub.rf, by rw [hA]; exact n2_0⟩) (by omega) (by omega)
abbrev rm_X1_dogsAt : Room := { frames := 2, cells := 0, slots := 0, locals := 60 }
set_option maxHeartbeats 4000000 in
theorem f1_dogsAt {lx : Launch} {g : GP} {h : AH} (htr : lx.stackTraces = false) {hb : AH} {f a ea ca b eb cb d : Nat} {ma mb : Int32} {ls lh : List Nat} {s : SF} (hF : FA g hb h f s a ea ma ca b eb mb cb d ls lh) (hWF : WF s) {x dq sb ln : Nat} {sv er re : Option Nat} {it : Int32} (hx : h x = some (clE f dq sv sb ln er it re)) {u : Int32} : KT lx g yX1_dogsAt (ws_ yX1_dogsAt cX1_dogsAt 7 (some .int)) rm_X1_dogsAt 0 0 [.ref x, .int u] h (isP (.int (nI (dgs s u 3))) h) (noX) := by
  refine KT.of (by decide +kernel) htr (Nat.le_of_ble_eq_true rfl) (L0 := [some (.ref x), some (.int u), none, none, none, none, none]) rfl ?_
  intro M cx hl9 hq hin hnx
  have hR1 : rm_X1_dogsAt.cells = 0 := rfl
  have hR2 : rm_X1_dogsAt.slots = 0 := rfl
  refine AW.hk fun hk9 => ?_
  have hS := hWF.1
  have hP := hWF.2.2
  have hn := hS.2.1
  have hm := hS.2.2.2
  refine a_iconst cx (v := 0) dX1_dogsAt_0 (by decide) ?_
  refine a_istore_n cx dX1_dogsAt_1 (Nat.le_of_ble_eq_true rfl) rfl ?_
  obtain ⟨fd, hd1, hd2⟩ := hF.dg
  refine a_aload_n cx dX1_dogsAt_2 rfl ?_
  refine a_get cx fl_X1_37.g dX1_dogsAt_3 (by assumption) (by exact rfl) ?_
  refine a_get cx fl_X1_156 dX1_dogsAt_6 hF.o (by exact rfl) ?_
  refine a_astore_n cx dX1_dogsAt_9 (Nat.le_of_ble_eq_true rfl) rfl ?_
  refine a_aload_n cx dX1_dogsAt_10 rfl ?_
  refine a_alen0 cx dX1_dogsAt_11 hd1 ?_
  refine a_istore cx dX1_dogsAt_12 (Nat.le_of_ble_eq_true rfl) rfl ?_
  refine a_iconst cx (v := 0) dX1_dogsAt_14 (by decide) ?_
  refine a_istore cx dX1_dogsAt_15 (Nat.le_of_ble_eq_true rfl) rfl ?_
  have loop : ∀ (j k : Nat), k ≤ 3 → 3 < k + j → AW g M 0 0 17 [some (.ref x), some (.int u), some (.int (nI (dgs s u k))), some (.ref d), some (.int (nI 3)), some (.int (nI k)), none] [] h := by
    intro j
    induction j with
    | zero => intro k h1 h2; omega
    | succ j ih =>
      intro k h1 h2
      refine a_iload cx dX1_dogsAt_17 rfl ?_
      refine a_iload cx dX1_dogsAt_19 rfl ?_
      refine a_icmp_ge cx (tgt := 50) dX1_dogsAt_21 (by decide) (fun c21 => ?_) (fun c21 => ?_)
      · have d21 := le_nI c21 (by omega) (by omega)
        have e21 : k = 3 := by omega
        subst e21
        refine a_iload_n cx dX1_dogsAt_50 rfl ?_
        exact a_iret cx hq dX1_dogsAt_51 ⟨rfl, rfl⟩ (by omega) (by omega)
      · have d21 := nle_nI c21 (by omega) (by omega)
        refine a_aload_n cx dX1_dogsAt_24 rfl ?_
        refine a_iload cx dX1_dogsAt_25 rfl ?_
        refine a_iald cx dX1_dogsAt_27 hd1 rfl (by omega) (by omega) ?_
        refine AW.topi (hd2 k d21) ?_
        refine a_istore cx dX1_dogsAt_28 (Nat.le_of_ble_eq_true rfl) rfl ?_
        refine a_iload_n cx dX1_dogsAt_30 rfl ?_
        refine a_iload cx dX1_dogsAt_31 rfl ?_
        refine a_iload_n cx dX1_dogsAt_33 rfl ?_
        refine a_icmp_ne cx (tgt := 41) dX1_dogsAt_34 (by decide) (fun c34 => ?_) (fun c34 => ?_)
        · have e1 : dgs s u (k + 1) = dgs s u k + 0 := by rw [dgs, if_neg c34]
          refine a_iconst cx (v := 0) dX1_dogsAt_41 (by decide) ?_
          refine a_iadd cx dX1_dogsAt_42 ?_
          refine AW.topi (show _ = nI (dgs s u (k + 1)) from (nI_add _ 0).trans (by rw [e1])) ?_
          refine a_istore_n cx dX1_dogsAt_43 (Nat.le_of_ble_eq_true rfl) rfl ?_
          refine a_iincN cx dX1_dogsAt_44 rfl (Nat.le_of_ble_eq_true rfl) rfl ?_
          refine a_goto cx (tgt := 17) dX1_dogsAt_47 (by decide) ?_
          exact AW.loc (show lle [some (.ref x), some (.int u), some (.int (nI (dgs s u (k + 1)))), some (.ref d), some (.int (nI 3)), some (.int (nI (k + 1))), none] _ from ⟨rfl, rfl, rfl, rfl, rfl, rfl, trivial⟩) (ih (k + 1) (by omega) (by omega))
        · have e1 : dgs s u (k + 1) = dgs s u k + 1 := by rw [dgs, if_pos c34]
          refine a_iconst cx (v := 1) dX1_dogsAt_37 (by decide) ?_
          refine a_goto cx (tgt := 42) dX1_dogsAt_38 (by decide) ?_
          refine a_iadd cx dX1_dogsAt_42 ?_
          refine AW.topi (show _ = nI (dgs s u (k + 1)) from (nI_add _ 1).trans (by rw [e1])) ?_
          refine a_istore_n cx dX1_dogsAt_43 (Nat.le_of_ble_eq_true rfl) rfl ?_
          refine a_iincN cx dX1_dogsAt_44 rfl (Nat.le_of_ble_eq_true rfl) rfl ?_
          refine a_goto cx (tgt := 17) dX1_dogsAt_47 (by decide) ?_
          exact AW.loc (show lle [some (.ref x), some (.int u), some (.int (nI (dgs s u (k + 1)))), some (.ref d), some (.int (nI 3)), some (.int (nI (k + 1))), none] _ from ⟨rfl, rfl, rfl, rfl, rfl, rfl, trivial⟩) (ih (k + 1) (by omega) (by omega))
  exact loop 4 0 (by omega) (by omega)
abbrev rm_X1_hutOf : Room := { frames := 14, cells := 10, slots := 60, locals := 300 }
set_option maxHeartbeats 4000000 in
theorem f1_hutOf {lx : Launch} {g : GP} {h : AH} (htr : lx.stackTraces = false) {hb : AH} {f a ea ca b eb cb d : Nat} {ma mb : Int32} {ls lh : List Nat} {s : SF} (hF : FA g hb h f s a ea ma ca b eb mb cb d ls lh) (hWF : WF s) {x dq sb ln : Nat} {sv er re : Option Nat} {it : Int32} (hx : h x = some (clE f dq sv sb ln er it re)) {u w : Int32} : KT lx g yX1_hutOf (ws_ yX1_hutOf cX1_hutOf 4 (some .int)) rm_X1_hutOf 10 60 [.ref x, .int u, .int w] h (QA h (qHut s u w)) (XQ h (qHut s u w) (ex2 "java/lang/IndexOutOfBoundsException" "java/lang/IllegalArgumentException")) := by
  refine KT.of (by decide +kernel) htr (Nat.le_of_ble_eq_true rfl) (L0 := [some (.ref x), some (.int u), some (.int w), none]) rfl ?_
  intro M cx hl9 hq hin hnx
  have hR1 : rm_X1_hutOf.cells = 10 := rfl
  have hR2 : rm_X1_hutOf.slots = 60 := rfl
  refine AW.hk fun hk9 => ?_
  have hS := hWF.1
  have hP := hWF.2.2
  have hn := hS.2.1
  have hm := hS.2.2.2
  refine a_aload_n cx dX1_hutOf_0 rfl ?_
  refine a_get cx fl_X1_37.g dX1_hutOf_1 (by assumption) (by exact rfl) ?_
  refine a_iload_n cx dX1_hutOf_4 rfl ?_
  refine c_V cx (f2_checkHut cx.htr hF hn) (lw_V q1483 q1280 q1281 q78 q1282) dn_X2_checkHut (RN.of rfl rfl rfl rfl) rfl hF.o rfl rfl rfl (Nat.le_of_ble_eq_true rfl) dX1_hutOf_5 (by omega) (by omega) (fun v9 h hp9 => ?_) (fun E9 q9 h9 hx9 => AX.out cx hq hnx (XQ.of sub.rf hx9 (fun z => by rw [qHut_x z]; exact ⟨n1_0, rfl⟩)) (by omega) (by omega))
  obtain ⟨rfl, e5, k5⟩ := hp9
  rw [e5]
  obtain ⟨j, hj, ej⟩ := (isIx_iff (x := u) (n := nH s) (by omega)).mp k5
  subst ej
  refine a_aload_n cx dX1_hutOf_8 rfl ?_
  refine a_get cx fl_X1_37.g dX1_hutOf_9 (by assumption) (by exact rfl) ?_
  refine a_iload_n cx dX1_hutOf_12 rfl ?_
  refine c_V cx (f2_flock (f := f) (u := nI j) cx.htr) (lw_V q1484 q660 q661 q78 q662) dn_X2_flock (RN.of rfl rfl rfl rfl) rfl hF.o rfl rfl rfl (Nat.le_of_ble_eq_true rfl) dX1_hutOf_13 (by omega) (by omega) (fun v9 h hp9 => ?_) (fun E9 q9 h9 hx9 => hx9.elim)
  obtain ⟨fl, rfl, nf, hBf, rfl⟩ := hp9
  have hF1 := hF.up (sub.new nf (e := flE (nI j) f))
  have hx1 := sub.new nf (e := flE (nI j) f) _ _ hx
  have hu1 := hF1.hu hj
  refine a_astore_n cx dX1_hutOf_16 (Nat.le_of_ble_eq_true rfl) rfl ?_
  refine a_iload_n cx dX1_hutOf_17 rfl ?_
  by_cases e18_0 : w = 0
  · refine AW.topi e18_0 ?_
    refine a_tabIn cx (tgt := 60) dX1_hutOf_18 (by decide) (by decide) rfl (by decide) ?_
    have hA : qHut s (nI j) w = (0, s (81 + j)) := by unfold qHut; rw [if_pos k5, if_pos e18_0, oN_nI (by omega)]
    refine a_aload_n cx dX1_hutOf_60 rfl ?_
    refine a_get cx fl_X1_37.g dX1_hutOf_61 hx1 (by exact rfl) ?_
    refine a_get cx fl_X1_168 dX1_hutOf_64 hF1.o (by exact rfl) ?_
    refine a_iload_n cx dX1_hutOf_67 rfl ?_
    refine c_V cx (j2_get (i := j) cx.htr hF1.lb (by rw [hF1.nh]; exact hj)) (lw_V q1485 q426 q427 q81 q428) dn_J2_get (RN.of rfl rfl rfl rfl) rfl hF1.lb.1 rfl rfl rfl (Nat.le_of_ble_eq_true rfl) dX1_hutOf_68 (by omega) (by omega) (pK ?_) (fun E9 q9 h9 hx9 => hx9.elim)
    refine a_castS (r := (RX5, TX5, 2)) cx q1486 dX1_hutOf_71 hu1 rfl ?_
    refine a_get cx fl_X1_177.g dX1_hutOf_74 hu1 (by exact rfl) ?_
    exact a_iret cx hq dX1_hutOf_77 ⟨by rw [hA], (sub.new nf), by rw [hA]⟩ (by omega) (by omega)
  by_cases e18_1 : w = 1
  · refine AW.topi e18_1 ?_
    refine a_tabIn cx (tgt := 78) dX1_hutOf_18 (by decide) (by decide) rfl (by decide) ?_
    have hA : qHut s (nI j) w = (0, s (87 + j)) := by unfold qHut; rw [if_pos k5, if_neg e18_0, if_pos e18_1, oN_nI (by omega)]
    refine a_aload_n cx dX1_hutOf_78 rfl ?_
    refine a_get cx fl_X1_37.g dX1_hutOf_79 hx1 (by exact rfl) ?_
    refine a_get cx fl_X1_168 dX1_hutOf_82 hF1.o (by exact rfl) ?_
    refine a_iload_n cx dX1_hutOf_85 rfl ?_
    refine c_V cx (j2_get (i := j) cx.htr hF1.lb (by rw [hF1.nh]; exact hj)) (lw_V q1485 q426 q427 q81 q428) dn_J2_get (RN.of rfl rfl rfl rfl) rfl hF1.lb.1 rfl rfl rfl (Nat.le_of_ble_eq_true rfl) dX1_hutOf_86 (by omega) (by omega) (pK ?_) (fun E9 q9 h9 hx9 => hx9.elim)
    refine a_castS (r := (RX5, TX5, 2)) cx q1486 dX1_hutOf_89 hu1 rfl ?_
    refine a_get cx fl_X1_178.g dX1_hutOf_92 hu1 (by exact rfl) ?_
    exact a_iret cx hq dX1_hutOf_95 ⟨by rw [hA], (sub.new nf), by rw [hA]⟩ (by omega) (by omega)
  by_cases e18_2 : w = 2
  · refine AW.topi e18_2 ?_
    refine a_tabIn cx (tgt := 96) dX1_hutOf_18 (by decide) (by decide) rfl (by decide) ?_
    have hA : qHut s (nI j) w = (0, nI (cnt s (nI j) (nS s))) := by unfold qHut; rw [if_pos k5, if_neg e18_0, if_neg e18_1, if_pos e18_2]
    refine a_aload_n cx dX1_hutOf_96 rfl ?_
    refine c_V cx (f10_count cx.htr hF1 hn (hset_s _ _ _)) (lw_V q1487 q797 q798 q110 q799) dn_X10_count (RN.of rfl rfl rfl rfl) rfl (hset_s _ _ _) rfl rfl rfl (Nat.le_of_ble_eq_true rfl) dX1_hutOf_97 (by omega) (by omega) (pK ?_) (fun E9 q9 h9 hx9 => hx9.elim)
    exact a_iret cx hq dX1_hutOf_100 ⟨by rw [hA], (sub.new nf), by rw [hA]⟩ (by omega) (by omega)
  by_cases e18_3 : w = 3
  · refine AW.topi e18_3 ?_
    refine a_tabIn cx (tgt := 101) dX1_hutOf_18 (by decide) (by decide) rfl (by decide) ?_
    have hA : qHut s (nI j) w = (0, wt s (nI j) (nS s)) := by unfold qHut; rw [if_pos k5, if_neg e18_0, if_neg e18_1, if_neg e18_2, if_pos e18_3]
    refine a_aload_n cx dX1_hutOf_101 rfl ?_
    refine c_V cx (f10_weight cx.htr hF1 hn (hset_s _ _ _)) (lw_V q1488 q708 q709 q110 q710) dn_X10_weight (RN.of rfl rfl rfl rfl) rfl (hset_s _ _ _) rfl rfl rfl (Nat.le_of_ble_eq_true rfl) dX1_hutOf_102 (by omega) (by omega) (pK ?_) (fun E9 q9 h9 hx9 => hx9.elim)
    exact a_iret cx hq dX1_hutOf_105 ⟨by rw [hA], (sub.new nf), by rw [hA]⟩ (by omega) (by omega)
  by_cases e18_4 : w = 4
  · refine AW.topi e18_4 ?_
    refine a_tabIn cx (tgt := 106) dX1_hutOf_18 (by decide) (by decide) rfl (by decide) ?_
    have hA : qHut s (nI j) w = (0, spr s j (nS s)) := by unfold qHut; rw [if_pos k5, if_neg e18_0, if_neg e18_1, if_neg e18_2, if_neg e18_3, if_pos e18_4, oN_nI (by omega)]
    refine a_aload_n cx dX1_hutOf_106 rfl ?_
    refine c_V cx (f10_spread cx.htr hF1 hn (hset_s _ _ _) hj) (lw_V q1489 q765 q766 q110 q767) dn_X10_spread (RN.of rfl rfl rfl rfl) rfl (hset_s _ _ _) rfl rfl rfl (Nat.le_of_ble_eq_true rfl) dX1_hutOf_107 (by omega) (by omega) (pK ?_) (fun E9 q9 h9 hx9 => hx9.elim)
    exact a_iret cx hq dX1_hutOf_110 ⟨by rw [hA], (sub.new nf), by rw [hA]⟩ (by omega) (by omega)
  by_cases e18_5 : w = 5
  · refine AW.topi e18_5 ?_
    refine a_tabIn cx (tgt := 111) dX1_hutOf_18 (by decide) (by decide) rfl (by decide) ?_
    have hA : qHut s (nI j) w = (0, oI (fth s j (nS s))) := by unfold qHut; rw [if_pos k5, if_neg e18_0, if_neg e18_1, if_neg e18_2, if_neg e18_3, if_neg e18_4, if_pos e18_5, oN_nI (by omega)]
    refine a_aload_n cx dX1_hutOf_111 rfl ?_
    refine a_get cx fl_X1_37.g dX1_hutOf_112 hx1 (by exact rfl) ?_
    refine a_get cx fl_X1_103 dX1_hutOf_115 hF1.o (by exact rfl) ?_
    refine a_aload_n cx dX1_hutOf_118 rfl ?_
    refine c_V cx (f10_farthest cx.htr hF1 hn (hset_s _ _ _) hj) (lw_V q1490 q1491 q1492 q110 q1493) dn_X10_farthest (RN.of rfl rfl rfl rfl) rfl (hset_s _ _ _) rfl rfl rfl (Nat.le_of_ble_eq_true rfl) dX1_hutOf_119 (by omega) (by omega) (pK ?_) (fun E9 q9 h9 hx9 => hx9.elim)
    rcases hat : fth s j (nS s) with _ | b9
    · skip
      refine c_V cx (j2_indexOfn cx.htr hF1.la) (lw_V q1494 q1325 q1326 q81 q1327) dn_J2_indexOf (RN.of rfl rfl rfl rfl) rfl hF1.la.1 rfl rfl rfl (Nat.le_of_ble_eq_true rfl) dX1_hutOf_122 (by omega) (by omega) (pK ?_) (fun E9 q9 h9 hx9 => hx9.elim)
      exact a_iret cx hq dX1_hutOf_125 ⟨by rw [hA, hat]; rfl, (sub.new nf), by rw [hA]⟩ (by omega) (by omega)
    · have hb9 := fth_lt hat
      refine c_V cx (j2_indexOf cx.htr hF1.la (hF1.sh hb9)) (lw_V q1494 q1325 q1326 q81 q1327) dn_J2_indexOf (RN.of rfl rfl rfl rfl) rfl hF1.la.1 rfl rfl rfl (Nat.le_of_ble_eq_true rfl) dX1_hutOf_122 (by omega) (by omega) (pK ?_) (fun E9 q9 h9 hx9 => hx9.elim)
      refine AW.topi (show _ = nI b9 by rw [fi_nodup hF1.ds (by rw [hF1.nl]; exact hb9)]; rfl) ?_
      exact a_iret cx hq dX1_hutOf_125 ⟨by rw [hA, hat]; rfl, (sub.new nf), by rw [hA]⟩ (by omega) (by omega)
  by_cases e18_6 : w = 6
  · refine AW.topi e18_6 ?_
    refine a_tabIn cx (tgt := 126) dX1_hutOf_18 (by decide) (by decide) rfl (by decide) ?_
    have hA : qHut s (nI j) w = (0, nI (dgs s (nI j) 3)) := by unfold qHut; rw [if_pos k5, if_neg e18_0, if_neg e18_1, if_neg e18_2, if_neg e18_3, if_neg e18_4, if_neg e18_5, if_pos e18_6]
    refine a_aload_n cx dX1_hutOf_126 rfl ?_
    refine a_iload_n cx dX1_hutOf_127 rfl ?_
    refine c_V cx (f1_dogsAt cx.htr hF1 hWF hx1) (lw_V q1495 q1497 qs16 q77 q1498) dn_X1_dogsAt (RN.of rfl rfl rfl rfl) rfl hx1 rfl rfl rfl (Nat.le_of_ble_eq_true rfl) dX1_hutOf_128 (by omega) (by omega) (pK ?_) (fun E9 q9 h9 hx9 => hx9.elim)
    exact a_iret cx hq dX1_hutOf_131 ⟨by rw [hA], (sub.new nf), by rw [hA]⟩ (by omega) (by omega)
  refine a_tabD cx (tgt := 132) dX1_hutOf_18 (fun i hi => match i, hi with | 0, _ => Or.inr e18_0 | 1, _ => Or.inr e18_1 | 2, _ => Or.inr e18_2 | 3, _ => Or.inr e18_3 | 4, _ => Or.inr e18_4 | 5, _ => Or.inr e18_5 | 6, _ => Or.inr e18_6 | i + 7, hi => absurd hi (by omega)) (by decide) ?_
  have hA : qHut s (nI j) w = (2, 0) := by unfold qHut; rw [if_pos k5, if_neg e18_0, if_neg e18_1, if_neg e18_2, if_neg e18_3, if_neg e18_4, if_neg e18_5, if_neg e18_6]
  exact t_IAE cx hq dX1_hutOf_132 dX1_hutOf_135 dX1_hutOf_136 dX1_hutOf_139 (fun x hx => (hnx x hx).elim) (by decide) (Nat.le_of_ble_eq_true rfl) (by omega) (by omega) (fun q => ⟨by rw [hA]; rfl, (sub.new nf), by rw [hA]; exact n2_0⟩) (by omega) (by omega)
