/-! THE CLASS: accounts -/
set_option maxRecDepth 100000
abbrev rm_X1_weights : Room := { frames := 6, cells := 4, slots := 20, locals := 120 }
set_option maxHeartbeats 4000000 in
theorem f1_weights {lx : Launch} {g : GP} {h : AH} (htr : lx.stackTraces = false) {hb : AH} {f a ea ca b eb cb d : Nat} {ma mb : Int32} {ls lh : List Nat} {s : SF} (hF : FA g hb h f s a ea ma ca b eb mb cb d ls lh) (hWF : WF s) {x dq sb ln : Nat} {sv er re : Option Nat} {it9 : Int32} (hx : h x = some (clE f dq sv sb ln er it9 re)) : KT lx g yX1_weights (ws_ yX1_weights cX1_weights 4 (some .int)) rm_X1_weights 4 20 [.ref x] h (isP (.int (allW s (nS s))) h) (noX) := by
  refine KT.of (by decide +kernel) htr (Nat.le_of_ble_eq_true rfl) (L0 := [some (.ref x), none, none, none]) rfl ?_
  intro M cx hl9 hq hin hnx
  have hR1 : rm_X1_weights.cells = 4 := rfl
  have hR2 : rm_X1_weights.slots = 20 := rfl
  refine AW.hk fun hk9 => ?_
  have hS := hWF.1
  have hP := hWF.2.2
  have hn := hS.2.1
  have hm := hS.2.2.2
  refine a_iconst cx (v := 0) dX1_weights_0 (by decide) ?_
  refine a_istore_n cx dX1_weights_1 (Nat.le_of_ble_eq_true rfl) rfl ?_
  refine a_aload_n cx dX1_weights_2 rfl ?_
  refine a_get cx fl_X1_37.g dX1_weights_3 (by assumption) (by exact rfl) ?_
  refine a_get cx fl_X1_103 dX1_weights_6 hF.o (by exact rfl) ?_
  refine c_V cx (j2_iterator cx.htr hF.la.1) (lw_V q1687 q299 q300 q81 q301) dn_J2_iterator (RN.of rfl rfl rfl rfl) rfl hF.la.1 rfl rfl rfl (Nat.le_of_ble_eq_true rfl) dX1_weights_9 (by omega) (by omega) (fun v9 h hp9 => ?_) (fun E9 q9 h9 hx9 => hx9.elim)
  obtain ⟨it, n9, hB9, rfl, rfl⟩ := hp9
  refine a_astore_n cx dX1_weights_12 (Nat.le_of_ble_eq_true rfl) rfl ?_
  have loop : ∀ (j0 k : Nat) (last : Int32) (h1 : AH), k ≤ nS s → nS s < k + j0 → sub h h1 → h1 it = some (itE (nI k) last ma a) → AW g M 1 4 13 [some (.ref x), some (.int (allW s k)), some (.ref it), none] [] h1 := by
    intro j0
    induction j0 with
    | zero => intro k last h1 b1 b2; omega
    | succ j0 ih =>
      intro k last h1 b1 b2 hs hit
      have hF1 := hF.up hs
      refine a_aload_n cx dX1_weights_13 rfl ?_
      refine c_F cx (j8_hasNext cx.htr hit hF1.la.1 (by have := hF.nl; omega) (by omega)) (lw_F q1689 q333 q335 q88 q337) (by decide +kernel) ⟨by decide, by decide, by decide +kernel⟩ (RN.of rfl rfl rfl rfl) rfl hit rfl rfl rfl (Nat.le_of_ble_eq_true rfl) dX1_weights_14 (by omega) (by omega) (pK ?_) (fun E9 q9 h9 hx9 => hx9.elim)
      refine a_if_eq cx (tgt := 42) dX1_weights_19 (by decide) (fun c19 => ?_) (fun c19 => ?_)
      · have d0 : k = nS s := (bne_eq_false_iff_eq.mp ((bI_0 _).mp c19)).trans hF.nl
        subst d0
        refine AW.hm hs (fun _ => hk9) ?_
        refine a_iload_n cx dX1_weights_42 rfl ?_
        exact a_iret cx hq dX1_weights_43 ⟨rfl, rfl⟩ (by omega) (by omega)
      · have d0 : k < nS s := by have q := bne_iff_ne.mp (bI_n0 c19); have := hF.nl; omega
        refine a_aload_n cx dX1_weights_22 rfl ?_
        refine c_F cx (j8_next cx.htr hit hF1.la (by rw [hF.nl]; exact d0)) (lw_F q1691 q445 q447 q88 q449) (by decide +kernel) ⟨by decide, by decide, by decide +kernel⟩ (RN.of rfl rfl rfl rfl) rfl hit rfl rfl rfl (Nat.le_of_ble_eq_true rfl) dX1_weights_23 (by omega) (by omega) (pK ?_) (fun E9 q9 h9 hx9 => hx9.elim)
        obtain ⟨h2, eh2⟩ : ∃ z, z = hset h1 it (itE (nI (k + 1)) (nI k) ma a) := ⟨_, rfl⟩
        rw [← eh2]
        have hs2 : sub h h2 := by rw [eh2]; exact hs.set n9
        have hF2 := hF.up hs2
        have hit2 : h2 it = some (itE (nI (k + 1)) (nI k) ma a) := by rw [eh2]; exact hset_s _ _ _
        have hsh := hF2.sh d0
        refine a_castS (r := (RX4, TX4, 4)) cx q1692 dX1_weights_28 hsh rfl ?_
        refine a_astore_n cx dX1_weights_31 (Nat.le_of_ble_eq_true rfl) rfl ?_
        refine a_iload_n cx dX1_weights_32 rfl ?_
        refine a_aload_n cx dX1_weights_33 rfl ?_
        refine a_get cx fl_X1_139.g dX1_weights_34 hsh (by exact rfl) ?_
        refine a_iadd cx dX1_weights_37 ?_
        refine a_istore_n cx dX1_weights_38 (Nat.le_of_ble_eq_true rfl) rfl ?_
        refine a_goto cx (tgt := 13) dX1_weights_39 (by decide) ?_
        have hgo := ih (k + 1) (nI k) h2 (by omega) (by omega) hs2 hit2
        
        refine AW.widen ?_ ?_ (AW.loc ?_ hgo)
        · omega
        · omega
        · exact ⟨rfl, rfl, rfl, trivial⟩
  exact loop (nS s + 1) 0 (-1) _ (Nat.zero_le _) (by omega) (sub.new n9) (hset_s _ _ _)
abbrev rm_X1_emptyHuts : Room := { frames := 12, cells := 20, slots := 60, locals := 240 }
set_option maxHeartbeats 4000000 in
theorem f1_emptyHuts {lx : Launch} {g : GP} {h : AH} (htr : lx.stackTraces = false) {hb : AH} {f a ea ca b eb cb d : Nat} {ma mb : Int32} {ls lh : List Nat} {s : SF} (hF : FA g hb h f s a ea ma ca b eb mb cb d ls lh) (hWF : WF s) {x dq sb ln : Nat} {sv er re : Option Nat} {it : Int32} (hx : h x = some (clE f dq sv sb ln er it re)) : KT lx g yX1_emptyHuts (ws_ yX1_emptyHuts cX1_emptyHuts 3 (some .int)) rm_X1_emptyHuts 20 60 [.ref x] h (isP (.int (nI (emp s (nH s)))) h) (noX) := by
  refine KT.of (by decide +kernel) htr (Nat.le_of_ble_eq_true rfl) (L0 := [some (.ref x), none, none]) rfl ?_
  intro M cx hl9 hq hin hnx
  have hR1 : rm_X1_emptyHuts.cells = 20 := rfl
  have hR2 : rm_X1_emptyHuts.slots = 60 := rfl
  refine AW.hk fun hk9 => ?_
  have hS := hWF.1
  have hP := hWF.2.2
  have hn := hS.2.1
  have hm := hS.2.2.2
  refine a_iconst cx (v := 0) dX1_emptyHuts_0 (by decide) ?_
  refine a_istore_n cx dX1_emptyHuts_1 (Nat.le_of_ble_eq_true rfl) rfl ?_
  refine a_iconst cx (v := 0) dX1_emptyHuts_2 (by decide) ?_
  refine a_istore_n cx dX1_emptyHuts_3 (Nat.le_of_ble_eq_true rfl) rfl ?_
  have loop : ∀ (j0 k : Nat), k ≤ nH s → nH s < k + j0 → AW g M (2 * k) (4 * k) 4 [some (.ref x), some (.int (nI (emp s k))), some (.int (nI k))] [] h := by
    intro j0
    induction j0 with
    | zero => intro k b1 b2; omega
    | succ j0 ih =>
      intro k b1 b2
      refine a_iload_n cx dX1_emptyHuts_4 rfl ?_
      refine a_aload_n cx dX1_emptyHuts_5 rfl ?_
      refine a_get cx fl_X1_37.g dX1_emptyHuts_6 (by assumption) (by exact rfl) ?_
      refine a_get cx fl_X1_168 dX1_emptyHuts_9 hF.o (by exact rfl) ?_
      refine c_V cx (j2_size cx.htr hF.lb.1) (lw_V q273 q274 q275 q81 q276) dn_J2_size (RN.of rfl rfl rfl rfl) rfl hF.lb.1 rfl rfl rfl (Nat.le_of_ble_eq_true rfl) dX1_emptyHuts_12 (by omega) (by omega) (pK ?_) (fun E9 q9 h9 hx9 => hx9.elim)
      refine AW.topi (congrArg nI hF.nh) ?_
      refine a_icmp_ge cx (tgt := 46) dX1_emptyHuts_15 (by decide) (fun c15 => ?_) (fun c15 => ?_)
      · have d15 := le_nI c15 (by omega) (by omega)
        have e15 : k = nH s := by omega
        subst e15
        refine a_iload_n cx dX1_emptyHuts_46 rfl ?_
        exact a_iret cx hq dX1_emptyHuts_47 ⟨rfl, rfl⟩ (by omega) (by omega)
      · have d15 := nle_nI c15 (by omega) (by omega)
        refine a_iload_n cx dX1_emptyHuts_18 rfl ?_
        refine a_aload_n cx dX1_emptyHuts_19 rfl ?_
        refine a_get cx fl_X1_37.g dX1_emptyHuts_20 (by assumption) (by exact rfl) ?_
        refine a_iload_n cx dX1_emptyHuts_23 rfl ?_
        refine c_V cx (f2_flock (f := f) (u := nI k) cx.htr) (lw_V q1484 q660 q661 q78 q662) dn_X2_flock (RN.of rfl rfl rfl rfl) rfl hF.o rfl rfl rfl (Nat.le_of_ble_eq_true rfl) dX1_emptyHuts_24 (by omega) (by omega) (fun v9 h hp9 => ?_) (fun E9 q9 h9 hx9 => hx9.elim)
        obtain ⟨fl, rfl, nf, hBf, rfl⟩ := hp9
        have hF1 := hF.up (sub.new nf (e := flE (nI k) f))
        refine c_V cx (f10_isEmpty cx.htr hF1 hn (hset_s _ _ _)) (lw_V q1697 q679 q680 q110 q681) dn_X10_isEmpty (RN.of rfl rfl rfl rfl) rfl (hset_s _ _ _) rfl rfl rfl (Nat.le_of_ble_eq_true rfl) dX1_emptyHuts_27 (by omega) (by omega) (pK ?_) (fun E9 q9 h9 hx9 => hx9.elim)
        refine AW.hm (sub.new nf) (fun _ => hk9) ?_
        refine a_if_eq cx (tgt := 37) dX1_emptyHuts_30 (by decide) (fun c30 => ?_) (fun c30 => ?_)
        · have e1 : emp s (k + 1) = emp s k + 0 := by rw [emp, if_neg (of_decide_eq_false ((bI_0 _).mp c30))]
          refine a_iconst cx (v := 0) dX1_emptyHuts_37 (by decide) ?_
          refine a_iadd cx dX1_emptyHuts_38 ?_
          refine AW.topi (show _ = nI (emp s (k + 1)) from (nI_add _ 0).trans (by rw [e1])) ?_
          refine a_istore_n cx dX1_emptyHuts_39 (Nat.le_of_ble_eq_true rfl) rfl ?_
          refine a_iincN cx dX1_emptyHuts_40 rfl (Nat.le_of_ble_eq_true rfl) rfl ?_
          refine a_goto cx (tgt := 4) dX1_emptyHuts_43 (by decide) ?_
          refine AW.widen ?_ ?_ (AW.loc ?_ (ih (k + 1) (by omega) (by omega)))
          · omega
          · omega
          · exact ⟨rfl, rfl, rfl, trivial⟩
        · have e1 : emp s (k + 1) = emp s k + 1 := by rw [emp, if_pos (of_decide_eq_true (bI_n0 c30))]
          refine a_iconst cx (v := 1) dX1_emptyHuts_33 (by decide) ?_
          refine a_goto cx (tgt := 38) dX1_emptyHuts_34 (by decide) ?_
          refine a_iadd cx dX1_emptyHuts_38 ?_
          refine AW.topi (show _ = nI (emp s (k + 1)) from (nI_add _ 1).trans (by rw [e1])) ?_
          refine a_istore_n cx dX1_emptyHuts_39 (Nat.le_of_ble_eq_true rfl) rfl ?_
          refine a_iincN cx dX1_emptyHuts_40 rfl (Nat.le_of_ble_eq_true rfl) rfl ?_
          refine a_goto cx (tgt := 4) dX1_emptyHuts_43 (by decide) ?_
          refine AW.widen ?_ ?_ (AW.loc ?_ (ih (k + 1) (by omega) (by omega)))
          · omega
          · omega
          · exact ⟨rfl, rfl, rfl, trivial⟩
  exact loop (nH s + 1) 0 (Nat.zero_le _) (by omega)
/-- accounts: a field s, t letters kept, m steps back -/
def qAccC (s : SF) (t m : Nat) (u : Int32) : Ans :=
  if u = 0 then (0, nI (nS s)) else if u = 1 then (0, nI (nH s)) else if u = 2 then (0, allW s (nS s)) else if u = 3 then (0, nI (emp s (nH s))) else if u = 4 then (0, nI (cnt s (-1) (nS s)))
  else if u = 5 then (0, s 2) else if u = 6 then (0, s 3) else if u = 7 then (0, s 4) else if u = 8 then (0, s 5) else if u = 9 then (0, nI t) else if u = 10 then (0, nI m) else (1, 0)
theorem qAccC_ok (S : ST) (u : Int32) : qAcc S u = qAccC S.row S.text.length S.hist.length u := rfl
abbrev rm_X1_account : Room := { frames := 16, cells := 30, slots := 100, locals := 360 }
set_option maxHeartbeats 4000000 in
theorem f1_account {lx : Launch} {g : GP} {h : AH} (htr : lx.stackTraces = false) {hb : AH} {f a ea ca b eb cb d : Nat} {ma mb : Int32} {ls lh : List Nat} {s : SF} (hF : FA g hb h f s a ea ma ca b eb mb cb d ls lh) (hWF : WF s) {x dq sb ln : Nat} {sv er re : Option Nat} {it : Int32} (hx : h x = some (clE f dq sv sb ln er it re)) {el hd bb cap : Nat} {lq tx : List Nat} (hD : DQ g h dq el hd lq) (hS : SB g h sb bb cap tx) {u : Int32} : KT lx g yX1_account (ws_ yX1_account cX1_account 2 (some .int)) rm_X1_account 30 100 [.ref x, .int u] h (QA h (qAccC s tx.length lq.length u)) (XQ h (qAccC s tx.length lq.length u) (ex1 "java/lang/IllegalArgumentException")) := by
  refine KT.of (by decide +kernel) htr (Nat.le_of_ble_eq_true rfl) (L0 := [some (.ref x), some (.int u)]) rfl ?_
  intro M cx hl9 hq hin hnx
  have hR1 : rm_X1_account.cells = 30 := rfl
  have hR2 : rm_X1_account.slots = 100 := rfl
  refine AW.hk fun hk9 => ?_
  have hSS := hWF.1
  have hP := hWF.2.2
  have hn := hSS.2.1
  have hm := hSS.2.2.2
  refine a_iload_n cx dX1_account_0 rfl ?_
  by_cases e1_0 : u = 0
  · refine AW.topi e1_0 ?_
    refine a_tabIn cx (tgt := 60) dX1_account_1 (by decide) (by decide) rfl (by decide) ?_
    have hA : qAccC s tx.length lq.length u = (0, nI (nS s)) := by unfold qAccC; rw [if_pos e1_0]
    refine a_aload_n cx dX1_account_60 rfl ?_
    refine a_get cx fl_X1_37.g dX1_account_61 (by assumption) (by exact rfl) ?_
    refine a_get cx fl_X1_103 dX1_account_64 hF.o (by exact rfl) ?_
    refine c_V cx (j2_size cx.htr hF.la.1) (lw_V q273 q274 q275 q81 q276) dn_J2_size (RN.of rfl rfl rfl rfl) rfl hF.la.1 rfl rfl rfl (Nat.le_of_ble_eq_true rfl) dX1_account_67 (by omega) (by omega) (pK ?_) (fun E9 q9 h9 hx9 => hx9.elim)
    refine AW.topi (congrArg nI hF.nl) ?_
    exact a_iret cx hq dX1_account_70 ⟨by rw [hA], sub.rf, by rw [hA]⟩ (by omega) (by omega)
  by_cases e1_1 : u = 1
  · refine AW.topi e1_1 ?_
    refine a_tabIn cx (tgt := 71) dX1_account_1 (by decide) (by decide) rfl (by decide) ?_
    have hA : qAccC s tx.length lq.length u = (0, nI (nH s)) := by unfold qAccC; rw [if_neg e1_0, if_pos e1_1]
    refine a_aload_n cx dX1_account_71 rfl ?_
    refine a_get cx fl_X1_37.g dX1_account_72 (by assumption) (by exact rfl) ?_
    refine a_get cx fl_X1_168 dX1_account_75 hF.o (by exact rfl) ?_
    refine c_V cx (j2_size cx.htr hF.lb.1) (lw_V q273 q274 q275 q81 q276) dn_J2_size (RN.of rfl rfl rfl rfl) rfl hF.lb.1 rfl rfl rfl (Nat.le_of_ble_eq_true rfl) dX1_account_78 (by omega) (by omega) (pK ?_) (fun E9 q9 h9 hx9 => hx9.elim)
    refine AW.topi (congrArg nI hF.nh) ?_
    exact a_iret cx hq dX1_account_81 ⟨by rw [hA], sub.rf, by rw [hA]⟩ (by omega) (by omega)
  by_cases e1_2 : u = 2
  · refine AW.topi e1_2 ?_
    refine a_tabIn cx (tgt := 82) dX1_account_1 (by decide) (by decide) rfl (by decide) ?_
    have hA : qAccC s tx.length lq.length u = (0, allW s (nS s)) := by unfold qAccC; rw [if_neg e1_0, if_neg e1_1, if_pos e1_2]
    refine a_aload_n cx dX1_account_82 rfl ?_
    refine c_V cx (f1_weights cx.htr hF hWF hx) (lw_V q1683 q1685 qs18 q77 q1686) dn_X1_weights (RN.of rfl rfl rfl rfl) rfl hx rfl rfl rfl (Nat.le_of_ble_eq_true rfl) dX1_account_83 (by omega) (by omega) (pK ?_) (fun E9 q9 h9 hx9 => hx9.elim)
    exact a_iret cx hq dX1_account_86 ⟨by rw [hA], sub.rf, by rw [hA]⟩ (by omega) (by omega)
  by_cases e1_3 : u = 3
  · refine AW.topi e1_3 ?_
    refine a_tabIn cx (tgt := 87) dX1_account_1 (by decide) (by decide) rfl (by decide) ?_
    have hA : qAccC s tx.length lq.length u = (0, nI (emp s (nH s))) := by unfold qAccC; rw [if_neg e1_0, if_neg e1_1, if_neg e1_2, if_pos e1_3]
    refine a_aload_n cx dX1_account_87 rfl ?_
    refine c_V cx (f1_emptyHuts cx.htr hF hWF hx) (lw_V q1693 q1695 qs19 q77 q1696) dn_X1_emptyHuts (RN.of rfl rfl rfl rfl) rfl hx rfl rfl rfl (Nat.le_of_ble_eq_true rfl) dX1_account_88 (by omega) (by omega) (pK ?_) (fun E9 q9 h9 hx9 => hx9.elim)
    exact a_iret cx hq dX1_account_91 ⟨by rw [hA], sub.rf, by rw [hA]⟩ (by omega) (by omega)
  by_cases e1_4 : u = 4
  · refine AW.topi e1_4 ?_
    refine a_tabIn cx (tgt := 92) dX1_account_1 (by decide) (by decide) rfl (by decide) ?_
    have hA : qAccC s tx.length lq.length u = (0, nI (cnt s (-1) (nS s))) := by unfold qAccC; rw [if_neg e1_0, if_neg e1_1, if_neg e1_2, if_neg e1_3, if_pos e1_4]
    refine a_aload_n cx dX1_account_92 rfl ?_
    refine a_get cx fl_X1_37.g dX1_account_93 (by assumption) (by exact rfl) ?_
    refine a_iconst cx (v := -1) dX1_account_96 (by decide) ?_
    refine c_V cx (f2_flock (f := f) (u := -1) cx.htr) (lw_V q1484 q660 q661 q78 q662) dn_X2_flock (RN.of rfl rfl rfl rfl) rfl hF.o rfl rfl rfl (Nat.le_of_ble_eq_true rfl) dX1_account_97 (by omega) (by omega) (fun v9 h hp9 => ?_) (fun E9 q9 h9 hx9 => hx9.elim)
    obtain ⟨fl, rfl, nf, hBf, rfl⟩ := hp9
    have hF1 := hF.up (sub.new nf (e := flE (-1) f))
    refine c_V cx (f10_count cx.htr hF1 hn (hset_s _ _ _)) (lw_V q1487 q797 q798 q110 q799) dn_X10_count (RN.of rfl rfl rfl rfl) rfl (hset_s _ _ _) rfl rfl rfl (Nat.le_of_ble_eq_true rfl) dX1_account_100 (by omega) (by omega) (pK ?_) (fun E9 q9 h9 hx9 => hx9.elim)
    refine AW.hm (sub.new nf) (fun _ => hk9) ?_
    exact a_iret cx hq dX1_account_103 ⟨by rw [hA], sub.rf, by rw [hA]⟩ (by omega) (by omega)
  by_cases e1_5 : u = 5
  · refine AW.topi e1_5 ?_
    refine a_tabIn cx (tgt := 104) dX1_account_1 (by decide) (by decide) rfl (by decide) ?_
    have hA : qAccC s tx.length lq.length u = (0, s 2) := by unfold qAccC; rw [if_neg e1_0, if_neg e1_1, if_neg e1_2, if_neg e1_3, if_neg e1_4, if_pos e1_5]
    refine a_aload_n cx dX1_account_104 rfl ?_
    refine a_get cx fl_X1_37.g dX1_account_105 (by assumption) (by exact rfl) ?_
    refine a_get cx fl_X1_309.g dX1_account_108 hF.o (by exact rfl) ?_
    exact a_iret cx hq dX1_account_111 ⟨by rw [hA], sub.rf, by rw [hA]⟩ (by omega) (by omega)
  by_cases e1_6 : u = 6
  · refine AW.topi e1_6 ?_
    refine a_tabIn cx (tgt := 112) dX1_account_1 (by decide) (by decide) rfl (by decide) ?_
    have hA : qAccC s tx.length lq.length u = (0, s 3) := by unfold qAccC; rw [if_neg e1_0, if_neg e1_1, if_neg e1_2, if_neg e1_3, if_neg e1_4, if_neg e1_5, if_pos e1_6]
    refine a_aload_n cx dX1_account_112 rfl ?_
    refine a_get cx fl_X1_37.g dX1_account_113 (by assumption) (by exact rfl) ?_
    refine a_get cx fl_X1_312.g dX1_account_116 hF.o (by exact rfl) ?_
    exact a_iret cx hq dX1_account_119 ⟨by rw [hA], sub.rf, by rw [hA]⟩ (by omega) (by omega)
  by_cases e1_7 : u = 7
  · refine AW.topi e1_7 ?_
    refine a_tabIn cx (tgt := 120) dX1_account_1 (by decide) (by decide) rfl (by decide) ?_
    have hA : qAccC s tx.length lq.length u = (0, s 4) := by unfold qAccC; rw [if_neg e1_0, if_neg e1_1, if_neg e1_2, if_neg e1_3, if_neg e1_4, if_neg e1_5, if_neg e1_6, if_pos e1_7]
    refine a_aload_n cx dX1_account_120 rfl ?_
    refine a_get cx fl_X1_37.g dX1_account_121 (by assumption) (by exact rfl) ?_
    refine a_get cx fl_X1_315.g dX1_account_124 hF.o (by exact rfl) ?_
    exact a_iret cx hq dX1_account_127 ⟨by rw [hA], sub.rf, by rw [hA]⟩ (by omega) (by omega)
  by_cases e1_8 : u = 8
  · refine AW.topi e1_8 ?_
    refine a_tabIn cx (tgt := 128) dX1_account_1 (by decide) (by decide) rfl (by decide) ?_
    have hA : qAccC s tx.length lq.length u = (0, s 5) := by unfold qAccC; rw [if_neg e1_0, if_neg e1_1, if_neg e1_2, if_neg e1_3, if_neg e1_4, if_neg e1_5, if_neg e1_6, if_neg e1_7, if_pos e1_8]
    refine a_aload_n cx dX1_account_128 rfl ?_
    refine a_get cx fl_X1_37.g dX1_account_129 (by assumption) (by exact rfl) ?_
    refine a_get cx fl_X1_318.g dX1_account_132 hF.o (by exact rfl) ?_
    exact a_iret cx hq dX1_account_135 ⟨by rw [hA], sub.rf, by rw [hA]⟩ (by omega) (by omega)
  by_cases e1_9 : u = 9
  · refine AW.topi e1_9 ?_
    refine a_tabIn cx (tgt := 136) dX1_account_1 (by decide) (by decide) rfl (by decide) ?_
    have hA : qAccC s tx.length lq.length u = (0, nI tx.length) := by unfold qAccC; rw [if_neg e1_0, if_neg e1_1, if_neg e1_2, if_neg e1_3, if_neg e1_4, if_neg e1_5, if_neg e1_6, if_neg e1_7, if_neg e1_8, if_pos e1_9]
    refine a_aload_n cx dX1_account_136 rfl ?_
    refine a_get cx fl_X1_51.g dX1_account_137 (by assumption) (by exact rfl) ?_
    refine c_V cx (j5_length cx.htr hS.1) (lw_V q1698 q965 q2433 q84 q966) dn_J5_length (RN.of rfl rfl rfl rfl) rfl hS.1 rfl rfl rfl (Nat.le_of_ble_eq_true rfl) dX1_account_140 (by omega) (by omega) (pK ?_) (fun E9 q9 h9 hx9 => hx9.elim)
    exact a_iret cx hq dX1_account_143 ⟨by rw [hA], sub.rf, by rw [hA]⟩ (by omega) (by omega)
  by_cases e1_10 : u = 10
  · refine AW.topi e1_10 ?_
    refine a_tabIn cx (tgt := 144) dX1_account_1 (by decide) (by decide) rfl (by decide) ?_
    have hA : qAccC s tx.length lq.length u = (0, nI lq.length) := by unfold qAccC; rw [if_neg e1_0, if_neg e1_1, if_neg e1_2, if_neg e1_3, if_neg e1_4, if_neg e1_5, if_neg e1_6, if_neg e1_7, if_neg e1_8, if_neg e1_9, if_pos e1_10]
    refine a_aload_n cx dX1_account_144 rfl ?_
    refine a_get cx fl_X1_44.g dX1_account_145 (by assumption) (by exact rfl) ?_
    refine c_V cx (j3_size cx.htr hD) (lw_V q1351 q1352 q1353 q82 q1354) dn_J3_size (RN.of rfl rfl rfl rfl) rfl hD.1 rfl rfl rfl (Nat.le_of_ble_eq_true rfl) dX1_account_148 (by omega) (by omega) (pK ?_) (fun E9 q9 h9 hx9 => hx9.elim)
    exact a_iret cx hq dX1_account_151 ⟨by rw [hA], sub.rf, by rw [hA]⟩ (by omega) (by omega)
  refine a_tabD cx (tgt := 152) dX1_account_1 (fun i hi => match i, hi with | 0, _ => Or.inr e1_0 | 1, _ => Or.inr e1_1 | 2, _ => Or.inr e1_2 | 3, _ => Or.inr e1_3 | 4, _ => Or.inr e1_4 | 5, _ => Or.inr e1_5 | 6, _ => Or.inr e1_6 | 7, _ => Or.inr e1_7 | 8, _ => Or.inr e1_8 | 9, _ => Or.inr e1_9 | 10, _ => Or.inr e1_10 | i + 11, hi => absurd hi (by omega)) (by decide) ?_
  have hA : qAccC s tx.length lq.length u = (1, 0) := by unfold qAccC; rw [if_neg e1_0, if_neg e1_1, if_neg e1_2, if_neg e1_3, if_neg e1_4, if_neg e1_5, if_neg e1_6, if_neg e1_7, if_neg e1_8, if_neg e1_9, if_neg e1_10]
  exact t_IAE cx hq dX1_account_152 dX1_account_155 dX1_account_156 dX1_account_159 (fun x hx => (hnx x hx).elim) (by decide) (Nat.le_of_ble_eq_true rfl) (by omega) (by omega) (fun q => ⟨rfl, sub.rf, by rw [hA]; exact n1_0⟩) (by omega) (by omega)
/-- a letter of the line -/
def qCh (l : List Nat) (u : Int32) : Ans := if isIx u l.length = true then (0, nI (l.getD (oN u) 0)) else (1, 0)
theorem qCh_x {l : List Nat} {u : Int32} (h : isIx u l.length = false) : qCh l u = (1, 0) := if_neg (by rw [h]; decide)
theorem qCh_n {l : List Nat} {k : Nat} (hk : k < l.length) (hl : l.length < 2 ^ 20) : qCh l (nI k) = (0, nI (l.getD k 0)) := by unfold qCh; have e := oN_nI (j := k) (by omega); rw [if_pos ((isIx_iff (n := l.length) (by omega)).mpr ⟨k, hk, rfl⟩), e]
theorem asc_at {l : List Nat} (h : asc l) {k : Nat} (hk : k < l.length) : l.getD k 0 < 128 := by
  rw [List.getD_eq_getElem?_getD, List.getElem?_eq_getElem hk]
  exact h.2 _ (List.getElem_mem hk)
abbrev rm_X1_character : Room := { frames := 10, cells := 4, slots := 30, locals := 200 }
set_option maxHeartbeats 4000000 in
theorem f1_character {lx : Launch} {g : GP} {h : AH} (htr : lx.stackTraces = false) {x f dq sb ln : Nat} {sv er re : Option Nat} {it : Int32} (hx : h x = some (clE f dq sv sb ln er it re)) {u : Int32} {l : List Nat} (hln : StrAt g h ln l) (hla : asc l) (hll : l.length ≤ 1000) : KT lx g yX1_character (ws_ yX1_character cX1_character 2 (some .char)) rm_X1_character 4 30 [.ref x, .int u] h (QA h (qCh l u)) (XQ h (qCh l u) (ex1 "java/lang/IndexOutOfBoundsException")) := by
  refine KT.of (by decide +kernel) htr (Nat.le_of_ble_eq_true rfl) (L0 := [some (.ref x), some (.int u)]) rfl ?_
  intro M cx hl9 hq hin hnx
  have hR1 : rm_X1_character.cells = 4 := rfl
  have hR2 : rm_X1_character.slots = 30 := rfl
  refine AW.hk fun hk9 => ?_
  obtain ⟨b15, hs15, hz15, hl1, hl2, hl3⟩ := id hln
  refine a_iload_n cx dX1_character_0 rfl ?_
  refine a_i2l cx dX1_character_1 rfl ?_
  refine a_lconst cx (v := 0) dX1_character_2 (by decide) ?_
  refine a_aload_n cx dX1_character_3 rfl ?_
  refine a_get cx fl_X1_57.g dX1_character_4 (by assumption) (by exact rfl) ?_
  refine c_V cx (j6_length cx.htr hln) (lw_V q1034 q876 q877 q85 q878) dn_J6_length (RN.of rfl rfl rfl rfl) rfl hl1 rfl rfl rfl (Nat.le_of_ble_eq_true rfl) dX1_character_7 (by omega) (by omega) (pK ?_) (fun E9 q9 h9 hx9 => hx9.elim)
  refine a_iconst cx (v := 1) dX1_character_10 (by decide) ?_
  refine a_isub cx dX1_character_11 ?_
  refine a_i2l cx dX1_character_12 rfl ?_
  refine c_S cx (f1_inRange (x := u) (y := 0) (z := nI l.length - 1) cx.htr) (lw_S q1158 q794 q77 q795) dn_X1_inRange (RN.of rfl rfl rfl rfl) rfl rfl (Nat.le_of_ble_eq_true rfl) dX1_character_13 (by omega) (by omega) (pK ?_) (fun E9 q9 h9 hx9 => hx9.elim)
  refine c_S cx (f1_checkIndex cx.htr) (lw_S q1648 q1223 q77 q1224) dn_X1_checkIndex (RN.of rfl rfl rfl rfl) rfl rfl (Nat.le_of_ble_eq_true rfl) dX1_character_16 (by omega) (by omega) (fun v9 h hp9 => ?_) (fun E9 q9 h9 hx9 => AX.out cx hq hnx (XQ.of sub.rf hx9 (fun z => by rw [qCh_x ((bI_0 _).mp z)]; exact ⟨by first | exact n1_0 | exact n2_0, rfl⟩)) (by omega) (by omega))
  obtain ⟨rfl, e16, ck16⟩ := hp9
  rw [e16]
  have k16 := bI_n0 ck16
  obtain ⟨k, hk, ek⟩ := (isIx_iff (x := u) (n := l.length) (by omega)).mp k16
  subst ek
  have hA := qCh_n hk (by omega)
  refine a_aload_n cx dX1_character_19 rfl ?_
  refine a_get cx fl_X1_57.g dX1_character_20 (by assumption) (by exact rfl) ?_
  refine a_iload_n cx dX1_character_23 rfl ?_
  refine c_V cx (j6_charAt (i := k) cx.htr hln hla hk) (lw_V q1649 q1650 q1651 q85 q1652) dn_J6_charAt (RN.of rfl rfl rfl rfl) rfl hl1 rfl rfl rfl (Nat.le_of_ble_eq_true rfl) dX1_character_24 (by omega) (by omega) (pK ?_) (fun E9 q9 h9 hx9 => hx9.elim)
  exact a_zret cx hq dX1_character_27 (c_nat _ (asc_at hla hk)).2 ⟨by rw [hA], sub.rf, by rw [hA]⟩ (by omega) (by omega)
abbrev rm_X1_refusal : Room := { frames := 8, cells := 4, slots := 30, locals := 160 }
set_option maxHeartbeats 4000000 in
theorem f1_refusal {lx : Launch} {g : GP} {h : AH} (htr : lx.stackTraces = false) {x f dq sb ln : Nat} {sv er re : Option Nat} {it : Int32} (hx : h x = some (clE f dq sv sb ln er it re)) {u W D : Int32} (h0 : re = none → W = 0) (h1 : ∀ a, re = some a → ¬ W = 0 ∧ h a = some (reE W D)) : KT lx g yX1_refusal (ws_ yX1_refusal cX1_refusal 2 (some .int)) rm_X1_refusal 4 30 [.ref x, .int u] h (QA h ((if W = 0 then 1 else 0, if u = 0 then W else D))) (XQ h ((if W = 0 then 1 else 0, if u = 0 then W else D)) (ex1 "java/lang/IllegalStateException")) := by
  refine KT.of (by decide +kernel) htr (Nat.le_of_ble_eq_true rfl) (L0 := [some (.ref x), some (.int u)]) rfl ?_
  intro M cx hl9 hq hin hnx
  have hR1 : rm_X1_refusal.cells = 4 := rfl
  have hR2 : rm_X1_refusal.slots = 30 := rfl
  refine AW.hk fun hk9 => ?_
  refine a_aload_n cx dX1_refusal_0 rfl ?_
  refine a_get cx fl_X1_92.g dX1_refusal_1 (by assumption) (by exact rfl) ?_
  rcases re with _ | ra
  · have hW0 := h0 rfl
    refine a_ifnullN cx (tgt := 11) dX1_refusal_4 (by decide) ?_
    refine a_iconst cx (v := 0) dX1_refusal_11 (by decide) ?_
    refine c_S cx (f1_checkState cx.htr) (lw_S q1668 q1669 q77 q1670) dn_X1_checkState (RN.of rfl rfl rfl rfl) rfl rfl (Nat.le_of_ble_eq_true rfl) dX1_refusal_12 (by omega) (by omega) (fun v9 h hp9 => ?_) (fun E9 q9 h9 hx9 => AX.out cx hq hnx (XQ.of sub.rf hx9 (fun z => by rw [if_pos hW0]; exact ⟨n1_0, rfl⟩)) (by omega) (by omega))
    obtain ⟨rfl, e12, ck12⟩ := hp9
    exact absurd rfl ck12
  · obtain ⟨hW0, hra⟩ := h1 ra rfl
    refine a_ifnull cx dX1_refusal_4 ?_
    refine a_iconst cx (v := 1) dX1_refusal_7 (by decide) ?_
    refine a_goto cx (tgt := 12) dX1_refusal_8 (by decide) ?_
    refine c_S cx (f1_checkStatek cx.htr (by decide)) (lw_S q1668 q1669 q77 q1670) dn_X1_checkState (RN.of rfl rfl rfl rfl) rfl rfl (Nat.le_of_ble_eq_true rfl) dX1_refusal_12 (by omega) (by omega) (pV ?_) (fun E9 q9 h9 hx9 => hx9.elim)
    refine a_iload_n cx dX1_refusal_15 rfl ?_
    refine a_if_eq cx (tgt := 29) dX1_refusal_16 (by decide) (fun c16 => ?_) (fun c16 => ?_)
    · refine a_aload_n cx dX1_refusal_29 rfl ?_
      refine a_get cx fl_X1_92.g dX1_refusal_30 (by assumption) (by exact rfl) ?_
      refine a_get cx fl_X1_285 dX1_refusal_33 hra (by exact rfl) ?_
      exact a_iret cx hq dX1_refusal_36 ⟨by rw [if_pos c16], sub.rf, if_neg hW0⟩ (by omega) (by omega)
    · refine a_aload_n cx dX1_refusal_19 rfl ?_
      refine a_get cx fl_X1_92.g dX1_refusal_20 (by assumption) (by exact rfl) ?_
      refine a_get cx fl_X1_282 dX1_refusal_23 hra (by exact rfl) ?_
      refine a_goto cx (tgt := 36) dX1_refusal_26 (by decide) ?_
      exact a_iret cx hq dX1_refusal_36 ⟨by rw [if_neg c16], sub.rf, if_neg hW0⟩ (by omega) (by omega)
abbrev rm_X1_errorPosition : Room := { frames := 8, cells := 4, slots := 30, locals := 160 }
set_option maxHeartbeats 4000000 in
theorem f1_errorPosition {lx : Launch} {g : GP} {h : AH} (htr : lx.stackTraces = false) {x f dq sb ln : Nat} {sv er re : Option Nat} {it : Int32} (hx : h x = some (clE f dq sv sb ln er it re)) {o : Option Nat} (h0 : er = none → o = none) (h1 : ∀ a, er = some a → ∃ p, o = some p ∧ h a = some (syE (nI p))) : KT lx g yX1_errorPosition (ws_ yX1_errorPosition cX1_errorPosition 1 (some .int)) rm_X1_errorPosition 4 30 [.ref x] h (QA h (qPos o)) (XQ h (qPos o) (ex1 "java/util/NoSuchElementException")) := by
  refine KT.of (by decide +kernel) htr (Nat.le_of_ble_eq_true rfl) (L0 := [some (.ref x)]) rfl ?_
  intro M cx hl9 hq hin hnx
  have hR1 : rm_X1_errorPosition.cells = 4 := rfl
  have hR2 : rm_X1_errorPosition.slots = 30 := rfl
  refine AW.hk fun hk9 => ?_
  refine a_aload_n cx dX1_errorPosition_0 rfl ?_
  refine a_get cx fl_X1_347.g dX1_errorPosition_1 (by assumption) (by exact rfl) ?_
  rcases er with _ | ra
  · have hW0 := h0 rfl
    refine a_ifnullN cx (tgt := 11) dX1_errorPosition_4 (by decide) ?_
    refine a_iconst cx (v := 0) dX1_errorPosition_11 (by decide) ?_
    refine c_S cx (f1_checkElement cx.htr) (lw_S q1549 q353 q77 q354) dn_X1_checkElement (RN.of rfl rfl rfl rfl) rfl rfl (Nat.le_of_ble_eq_true rfl) dX1_errorPosition_12 (by omega) (by omega) (fun v9 h hp9 => ?_) (fun E9 q9 h9 hx9 => AX.out cx hq hnx (XQ.of sub.rf hx9 (fun z => by rw [hW0]; exact ⟨n1_0, rfl⟩)) (by omega) (by omega))
    obtain ⟨rfl, e12, ck12⟩ := hp9
    exact absurd rfl ck12
  · obtain ⟨p, hW0, hra⟩ := h1 ra rfl
    refine a_ifnull cx dX1_errorPosition_4 ?_
    refine a_iconst cx (v := 1) dX1_errorPosition_7 (by decide) ?_
    refine a_goto cx (tgt := 12) dX1_errorPosition_8 (by decide) ?_
    refine c_S cx (f1_checkElementk cx.htr (by decide)) (lw_S q1549 q353 q77 q354) dn_X1_checkElement (RN.of rfl rfl rfl rfl) rfl rfl (Nat.le_of_ble_eq_true rfl) dX1_errorPosition_12 (by omega) (by omega) (pV ?_) (fun E9 q9 h9 hx9 => hx9.elim)
    refine a_aload_n cx dX1_errorPosition_15 rfl ?_
    refine a_get cx fl_X1_347.g dX1_errorPosition_16 (by assumption) (by exact rfl) ?_
    refine a_get cx fl_X1_354 dX1_errorPosition_19 hra (by exact rfl) ?_
    exact a_iret cx hq dX1_errorPosition_22 ⟨by rw [hW0]; rfl, sub.rf, by rw [hW0]; rfl⟩ (by omega) (by omega)
abbrev rm_X1_refusedItem : Room := { frames := 8, cells := 4, slots := 30, locals := 160 }
set_option maxHeartbeats 4000000 in
theorem f1_refusedItem {lx : Launch} {g : GP} {h : AH} (htr : lx.stackTraces = false) {x f dq sb ln : Nat} {sv er re : Option Nat} {it : Int32} (hx : h x = some (clE f dq sv sb ln er it re)) {o : Option Nat} (hit : it = oI o) (hb0 : ∀ b, o = some b → b < 1000) : KT lx g yX1_refusedItem (ws_ yX1_refusedItem cX1_refusedItem 1 (some .int)) rm_X1_refusedItem 4 30 [.ref x] h (QA h (qPos o)) (XQ h (qPos o) (ex1 "java/util/NoSuchElementException")) := by
  refine KT.of (by decide +kernel) htr (Nat.le_of_ble_eq_true rfl) (L0 := [some (.ref x)]) rfl ?_
  intro M cx hl9 hq hin hnx
  have hR1 : rm_X1_refusedItem.cells = 4 := rfl
  have hR2 : rm_X1_refusedItem.slots = 30 := rfl
  refine AW.hk fun hk9 => ?_
  rcases o with _ | p
  · subst hit
    refine a_aload_n cx dX1_refusedItem_0 rfl ?_
    refine a_get cx fl_X1_61.g dX1_refusedItem_1 (by assumption) (by exact rfl) ?_
    refine a_iconst cx (v := -1) dX1_refusedItem_4 (by decide) ?_
    refine a_icmp_eq cx (tgt := 12) dX1_refusedItem_5 (by decide) (fun c5 => ?_) (fun c5 => absurd rfl c5)
    refine a_iconst cx (v := 0) dX1_refusedItem_12 (by decide) ?_
    refine c_S cx (f1_checkElement cx.htr) (lw_S q1549 q353 q77 q354) dn_X1_checkElement (RN.of rfl rfl rfl rfl) rfl rfl (Nat.le_of_ble_eq_true rfl) dX1_refusedItem_13 (by omega) (by omega) (fun v9 h hp9 => ?_) (fun E9 q9 h9 hx9 => AX.out cx hq hnx (XQ.of sub.rf hx9 (fun z => by exact ⟨n1_0, rfl⟩)) (by omega) (by omega))
    obtain ⟨rfl, e13, ck13⟩ := hp9
    exact absurd rfl ck13
  · subst hit
    have hp := hb0 p rfl
    refine a_aload_n cx dX1_refusedItem_0 rfl ?_
    refine a_get cx fl_X1_61.g dX1_refusedItem_1 (by assumption) (by exact rfl) ?_
    refine a_iconst cx (v := -1) dX1_refusedItem_4 (by decide) ?_
    refine a_icmp_eq cx (tgt := 12) dX1_refusedItem_5 (by decide) (fun c5 => absurd c5 (oI_s (by omega))) (fun c5 => ?_)
    refine a_iconst cx (v := 1) dX1_refusedItem_8 (by decide) ?_
    refine a_goto cx (tgt := 13) dX1_refusedItem_9 (by decide) ?_
    refine c_S cx (f1_checkElementk cx.htr (by decide)) (lw_S q1549 q353 q77 q354) dn_X1_checkElement (RN.of rfl rfl rfl rfl) rfl rfl (Nat.le_of_ble_eq_true rfl) dX1_refusedItem_13 (by omega) (by omega) (pV ?_) (fun E9 q9 h9 hx9 => hx9.elim)
    refine a_aload_n cx dX1_refusedItem_16 rfl ?_
    refine a_get cx fl_X1_61.g dX1_refusedItem_17 (by assumption) (by exact rfl) ?_
    exact a_iret cx hq dX1_refusedItem_20 ⟨rfl, sub.rf, rfl⟩ (by omega) (by omega)
