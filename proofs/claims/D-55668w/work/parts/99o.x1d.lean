/-! THE CLASS: means and shares -/
set_option maxRecDepth 100000
/-- distances over the sheep, hut by hut -/
def dstn (s : SF) (n : Nat) : Nat → Int32
  | 0 => 0
  | j + 1 => dstn s n j + dst s j n
theorem dstn_0 (s : SF) : ∀ m, dstn s 0 m = 0 := by
  intro m
  induction m with
  | zero => rfl
  | succ m ih => rw [dstn, ih]; rfl
theorem dstn_none {s : SF} {n : Nat} (h : s (63 + n) = -1) : ∀ m, m < 2 ^ 31 → dstn s (n + 1) m = dstn s n m := by
  intro m
  induction m with
  | zero => intro _; rfl
  | succ m ih => intro hm; rw [dstn, dstn, ih (by omega), dst, if_neg (fun z => ne_m1 (j := m) (by omega) (z.symm.trans h)), Int32.add_zero]
theorem dstn_some {s : SF} {n i : Nat} (h : s (63 + n) = nI i) (hi : i < 2 ^ 31) : ∀ m, m < 2 ^ 31 → dstn s (n + 1) m = dstn s n m + if i < m then far s n i else 0 := by
  intro m
  induction m with
  | zero => intro _; rfl
  | succ m ih =>
    intro hm
    rw [dstn, dstn, ih (by omega), dst]
    by_cases e : i = m
    · subst e; rw [if_pos h, if_neg (by omega), if_pos (by omega)]; grind
    · rw [if_neg (fun z => e (nI_inj hi (by omega) (h.symm.trans z)))]
      by_cases e2 : i < m
      · rw [if_pos e2, if_pos (by omega)]; grind
      · rw [if_neg e2, if_neg (by omega)]; grind
theorem fsum_ok {s : SF} (hW : ∀ k, k < nS s → isO (s (63 + k)) (nH s)) (hm : nH s ≤ 6) : ∀ n, n ≤ nS s → dstn s n (nH s) = fsum s n := by
  intro n
  induction n with
  | zero => intro _; rw [dstn_0]; rfl
  | succ n ih =>
    intro hn
    rcases hW n (by omega) with h | ⟨i, hi, h⟩
    · rw [dstn_none h _ (by omega), ih (by omega), fsum, if_pos h, Int32.add_zero]
    · rw [dstn_some h (by omega) _ (by omega), ih (by omega), if_pos hi, fsum, if_neg (by rw [h]; exact ne_m1 (by omega)), h, oN_nI (by omega)]
abbrev rm_X1_meanDistance : Room := { frames := 14, cells := 40, slots := 120, locals := 300 }
set_option maxHeartbeats 4000000 in
theorem f1_meanDistance {lx : Launch} {g : GP} {h : AH} (htr : lx.stackTraces = false) {hb : AH} {f a ea ca b eb cb d : Nat} {ma mb : Int32} {ls lh : List Nat} {s : SF} (hF : FA g hb h f s a ea ma ca b eb mb cb d ls lh) (hWF : WF s) {x dq sb ln : Nat} {sv er re : Option Nat} {it : Int32} (hx : h x = some (clE f dq sv sb ln er it re)) : KT lx g yX1_meanDistance (ws_ yX1_meanDistance cX1_meanDistance 4 (some .double)) rm_X1_meanDistance 40 120 [.ref x] h (fun v h' => v = some (.double (FP.ddiv (FP.i2d (fsum s (nS s))) (FP.i2d (nI (fcn s (nS s)))))) ∧ sub h h' ∧ 0 < fcn s (nS s)) (fun E _ h' => E = "java/lang/ArithmeticException" ∧ sub h h' ∧ fcn s (nS s) = 0) := by
  refine KT.of (by decide +kernel) htr (Nat.le_of_ble_eq_true rfl) (L0 := [some (.ref x), none, none, none]) rfl ?_
  intro M cx hl9 hq hin hnx
  have hR1 : rm_X1_meanDistance.cells = 40 := rfl
  have hR2 : rm_X1_meanDistance.slots = 120 := rfl
  refine AW.hk fun hk9 => ?_
  have hS := hWF.1
  have hP := hWF.2.2
  have hn := hS.2.1
  have hm := hS.2.2.2
  have hW := hWF.2.1.1
  have hb9 := fcn_le s (nS s)
  refine a_iconst cx (v := 0) dX1_meanDistance_0 (by decide) ?_
  refine a_istore_n cx dX1_meanDistance_1 (Nat.le_of_ble_eq_true rfl) rfl ?_
  refine a_iconst cx (v := 0) dX1_meanDistance_2 (by decide) ?_
  refine a_istore_n cx dX1_meanDistance_3 (Nat.le_of_ble_eq_true rfl) rfl ?_
  refine a_iconst cx (v := 0) dX1_meanDistance_4 (by decide) ?_
  refine a_istore_n cx dX1_meanDistance_5 (Nat.le_of_ble_eq_true rfl) rfl ?_
  have loop : ∀ (j0 k : Nat), k ≤ nH s → nH s < k + j0 → AW g M (4 * k) (8 * k) 6 [some (.ref x), some (.int (dstn s (nS s) k)), some (.int (nI (cntn s (nS s) k))), some (.int (nI k))] [] h := by
    intro j0
    induction j0 with
    | zero => intro k b1 b2; omega
    | succ j0 ih =>
      intro k b1 b2
      refine a_iload_n cx dX1_meanDistance_6 rfl ?_
      refine a_aload_n cx dX1_meanDistance_7 rfl ?_
      refine a_get cx fl_X1_37.g dX1_meanDistance_8 (by assumption) (by exact rfl) ?_
      refine a_get cx fl_X1_168 dX1_meanDistance_11 hF.o (by exact rfl) ?_
      refine c_V cx (j2_size cx.htr hF.lb.1) (lw_V q273 q274 q275 q81 q276) dn_J2_size (RN.of rfl rfl rfl rfl) rfl hF.lb.1 rfl rfl rfl (Nat.le_of_ble_eq_true rfl) dX1_meanDistance_14 (by omega) (by omega) (pK ?_) (fun E9 q9 h9 hx9 => hx9.elim)
      refine AW.topi (congrArg nI hF.nh) ?_
      refine a_icmp_ge cx (tgt := 54) dX1_meanDistance_17 (by decide) (fun c17 => ?_) (fun c17 => ?_)
      · have d17 := le_nI c17 (by omega) (by omega)
        have e17 : k = nH s := by omega
        subst e17
        rw [fsum_ok hW hm _ (Nat.le_refl _), fcn_cntn hW hm _ (Nat.le_refl _)]
        rcases Nat.eq_zero_or_pos (fcn s (nS s)) with hz | hz
        · skip
          refine a_iload_n cx dX1_meanDistance_54 rfl ?_
          refine a_if_le cx (tgt := 62) dX1_meanDistance_55 (by decide) (fun c55 => ?_) (fun c55 => absurd (by rw [hz]; decide) c55)
          refine a_iconst cx (v := 0) dX1_meanDistance_62 (by decide) ?_
          refine c_S cx (f1_checkNumbers cx.htr) (lw_S q1724 q1725 q77 q1726) dn_X1_checkNumbers (RN.of rfl rfl rfl rfl) rfl rfl (Nat.le_of_ble_eq_true rfl) dX1_meanDistance_63 (by omega) (by omega) (fun v9 h hp9 => ?_) (fun E9 q9 h9 hx9 => AX.out cx hq hnx ⟨hx9.1, by rw [hx9.2.1]; exact sub.rf, hz⟩ (by omega) (by omega))
          obtain ⟨rfl, e63, ck63⟩ := hp9
          exact absurd rfl ck63
        · skip
          refine a_iload_n cx dX1_meanDistance_54 rfl ?_
          refine a_if_le cx (tgt := 62) dX1_meanDistance_55 (by decide) (fun c55 => absurd (le_nI (a := fcn s (nS s)) (b := 0) c55 (by omega) (by omega)) (by omega)) (fun c55 => ?_)
          refine a_iconst cx (v := 1) dX1_meanDistance_58 (by decide) ?_
          refine a_goto cx (tgt := 63) dX1_meanDistance_59 (by decide) ?_
          refine c_S cx (f1_checkNumbersk cx.htr (by decide)) (lw_S q1724 q1725 q77 q1726) dn_X1_checkNumbers (RN.of rfl rfl rfl rfl) rfl rfl (Nat.le_of_ble_eq_true rfl) dX1_meanDistance_63 (by omega) (by omega) (pV ?_) (fun E9 q9 h9 hx9 => hx9.elim)
          refine a_iload_n cx dX1_meanDistance_66 rfl ?_
          refine a_i2d cx dX1_meanDistance_67 ?_
          refine a_iload_n cx dX1_meanDistance_68 rfl ?_
          refine a_i2d cx dX1_meanDistance_69 ?_
          refine a_ddiv cx dX1_meanDistance_70 (nn64 hz (by omega)) ?_
          exact a_dret cx hq dX1_meanDistance_71 ⟨rfl, sub.rf, hz⟩ (by omega) (by omega)
      · have d17 := nle_nI c17 (by omega) (by omega)
        refine a_iload_n cx dX1_meanDistance_20 rfl ?_
        refine a_aload_n cx dX1_meanDistance_21 rfl ?_
        refine a_get cx fl_X1_37.g dX1_meanDistance_22 (by assumption) (by exact rfl) ?_
        refine a_iload_n cx dX1_meanDistance_25 rfl ?_
        refine c_V cx (f2_flock (f := f) (u := nI k) cx.htr) (lw_V q1484 q660 q661 q78 q662) dn_X2_flock (RN.of rfl rfl rfl rfl) rfl hF.o rfl rfl rfl (Nat.le_of_ble_eq_true rfl) dX1_meanDistance_26 (by omega) (by omega) (fun v9 h hp9 => ?_) (fun E9 q9 h9 hx9 => hx9.elim)
        obtain ⟨fl, rfl, nf, hBf, rfl⟩ := hp9
        have hF1 := hF.up (sub.new nf (e := flE (nI k) f))
        refine c_V cx (f10_distances cx.htr hF1 hn (hset_s _ _ _) d17) (lw_V q1720 q1721 q1722 q110 q1723) dn_X10_distances (RN.of rfl rfl rfl rfl) rfl (hset_s _ _ _) rfl rfl rfl (Nat.le_of_ble_eq_true rfl) dX1_meanDistance_29 (by omega) (by omega) (pK ?_) (fun E9 q9 h9 hx9 => hx9.elim)
        refine AW.hm (sub.new nf) (fun _ => hk9) ?_
        refine a_iadd cx dX1_meanDistance_32 ?_
        refine a_istore_n cx dX1_meanDistance_33 (Nat.le_of_ble_eq_true rfl) rfl ?_
        refine a_iload_n cx dX1_meanDistance_34 rfl ?_
        refine a_aload_n cx dX1_meanDistance_35 rfl ?_
        refine a_get cx fl_X1_37.g dX1_meanDistance_36 (by assumption) (by exact rfl) ?_
        refine a_iload_n cx dX1_meanDistance_39 rfl ?_
        refine c_V cx (f2_flock (f := f) (u := nI k) cx.htr) (lw_V q1484 q660 q661 q78 q662) dn_X2_flock (RN.of rfl rfl rfl rfl) rfl hF.o rfl rfl rfl (Nat.le_of_ble_eq_true rfl) dX1_meanDistance_40 (by omega) (by omega) (fun v9 h hp9 => ?_) (fun E9 q9 h9 hx9 => hx9.elim)
        obtain ⟨fl2, rfl, nf2, hBf2, rfl⟩ := hp9
        have hF2 := hF.up (sub.new nf2 (e := flE (nI k) f))
        refine c_V cx (f10_count cx.htr hF2 hn (hset_s _ _ _)) (lw_V q1487 q797 q798 q110 q799) dn_X10_count (RN.of rfl rfl rfl rfl) rfl (hset_s _ _ _) rfl rfl rfl (Nat.le_of_ble_eq_true rfl) dX1_meanDistance_43 (by omega) (by omega) (pK ?_) (fun E9 q9 h9 hx9 => hx9.elim)
        refine AW.hm (sub.new nf2) (fun _ => hk9) ?_
        refine a_iadd cx dX1_meanDistance_46 ?_
        refine AW.topi (show _ = nI (cntn s (nS s) (k + 1)) from nI_add _ _) ?_
        refine a_istore_n cx dX1_meanDistance_47 (Nat.le_of_ble_eq_true rfl) rfl ?_
        refine a_iincN cx dX1_meanDistance_48 rfl (Nat.le_of_ble_eq_true rfl) rfl ?_
        refine a_goto cx (tgt := 6) dX1_meanDistance_51 (by decide) ?_
        refine AW.widen ?_ ?_ (AW.loc ?_ (ih (k + 1) (by omega) (by omega)))
        · omega
        · omega
        · exact ⟨rfl, rfl, rfl, rfl, trivial⟩
  exact loop (nH s + 1) 0 (Nat.zero_le _) (by omega)
abbrev rm_X1_strayShare : Room := { frames := 18, cells := 30, slots := 1830, locals := 450 }
set_option maxHeartbeats 4000000 in
theorem f1_strayShare {lx : Launch} {g : GP} {h : AH} (htr : lx.stackTraces = false) {hb : AH} {f a ea ca b eb cb d : Nat} {ma mb : Int32} {ls lh : List Nat} {s : SF} (hF : FA g hb h f s a ea ma ca b eb mb cb d ls lh) (hWF : WF s) {x dq sb ln : Nat} {sv er re : Option Nat} {it : Int32} (hx : h x = some (clE f dq sv sb ln er it re)) : KT lx g yX1_strayShare (ws_ yX1_strayShare cX1_strayShare 1 (some .float)) rm_X1_strayShare 30 1830 [.ref x] h (fun v h' => v = some (.float (FP.fdiv (FP.i2f (nI (strm s (nS s)))) (FP.i2f (nI (nS s))))) ∧ sub h h' ∧ 0 < nS s) (fun E _ h' => E = "java/lang/ArithmeticException" ∧ sub h h' ∧ nS s = 0) := by
  refine KT.of (by decide +kernel) htr (Nat.le_of_ble_eq_true rfl) (L0 := [some (.ref x)]) rfl ?_
  intro M cx hl9 hq hin hnx
  have hR1 : rm_X1_strayShare.cells = 30 := rfl
  have hR2 : rm_X1_strayShare.slots = 1830 := rfl
  refine AW.hk fun hk9 => ?_
  have hS := hWF.1
  have hP := hWF.2.2
  have hn := hS.2.1
  have hm := hS.2.2.2
  have hb9 := strm_le s (nS s)
  refine a_aload_n cx dX1_strayShare_0 rfl ?_
  refine a_get cx fl_X1_37.g dX1_strayShare_1 (by assumption) (by exact rfl) ?_
  refine a_get cx fl_X1_103 dX1_strayShare_4 hF.o (by exact rfl) ?_
  refine c_V cx (j2_isEmpty cx.htr hF.la.1 (by have := hF.nl; omega)) (lw_V q1739 q627 q628 q81 q629) dn_J2_isEmpty (RN.of rfl rfl rfl rfl) rfl hF.la.1 rfl rfl rfl (Nat.le_of_ble_eq_true rfl) dX1_strayShare_7 (by omega) (by omega) (pK ?_) (fun E9 q9 h9 hx9 => hx9.elim)
  rw [hF.nl]
  rcases Nat.eq_zero_or_pos (nS s) with hz | hz
  · skip
    refine a_if_ne cx (tgt := 17) dX1_strayShare_10 (by decide) (fun c10 => ?_) (fun c10 => absurd c10 (by rw [hz]; decide))
    refine a_iconst cx (v := 0) dX1_strayShare_17 (by decide) ?_
    refine c_S cx (f1_checkNumbers cx.htr) (lw_S q1724 q1725 q77 q1726) dn_X1_checkNumbers (RN.of rfl rfl rfl rfl) rfl rfl (Nat.le_of_ble_eq_true rfl) dX1_strayShare_18 (by omega) (by omega) (fun v9 h hp9 => ?_) (fun E9 q9 h9 hx9 => AX.out cx hq hnx ⟨hx9.1, by rw [hx9.2.1]; exact sub.rf, hz⟩ (by omega) (by omega))
    obtain ⟨rfl, e18, ck18⟩ := hp9
    exact absurd rfl ck18
  · skip
    refine a_if_ne cx (tgt := 17) dX1_strayShare_10 (by decide) (fun c10 => absurd (by rw [bI_f (beq_eq_false_iff_ne.mpr (by omega))]) c10) (fun c10 => ?_)
    refine a_iconst cx (v := 1) dX1_strayShare_13 (by decide) ?_
    refine a_goto cx (tgt := 18) dX1_strayShare_14 (by decide) ?_
    refine c_S cx (f1_checkNumbersk cx.htr (by decide)) (lw_S q1724 q1725 q77 q1726) dn_X1_checkNumbers (RN.of rfl rfl rfl rfl) rfl rfl (Nat.le_of_ble_eq_true rfl) dX1_strayShare_18 (by omega) (by omega) (pV ?_) (fun E9 q9 h9 hx9 => hx9.elim)
    refine a_aload_n cx dX1_strayShare_21 rfl ?_
    refine a_get cx fl_X1_37.g dX1_strayShare_22 (by assumption) (by exact rfl) ?_
    refine c_V cx (f2_strays cx.htr hF hn hm hWF.2.1.1) (lw_V q774 q775 q776 q78 q777) dn_X2_strays (RN.of rfl rfl rfl rfl) rfl hF.o rfl rfl rfl (Nat.le_of_ble_eq_true rfl) dX1_strayShare_25 (by omega) (by omega) (fun v9 h hp9 => ?_) (fun E9 q9 h9 hx9 => hx9.elim)
    obtain ⟨q, edq, mq, cq, rfl, nq, hs2, hlq⟩ := hp9
    refine c_V cx (j2_size cx.htr hlq.1) (lw_V q273 q274 q275 q81 q276) dn_J2_size (RN.of rfl rfl rfl rfl) rfl hlq.1 rfl rfl rfl (Nat.le_of_ble_eq_true rfl) dX1_strayShare_28 (by omega) (by omega) (pK ?_) (fun E9 q9 h9 hx9 => hx9.elim)
    refine AW.topi (congrArg nI (srl_len _ _ _)) ?_
    have hx2 := hs2 _ _ hx
    have hF2 := hF.up hs2
    refine a_i2f cx dX1_strayShare_31 ?_
    refine a_aload_n cx dX1_strayShare_32 rfl ?_
    refine a_get cx fl_X1_37.g dX1_strayShare_33 (by assumption) (by exact rfl) ?_
    refine a_get cx fl_X1_103 dX1_strayShare_36 hF2.o (by exact rfl) ?_
    refine c_V cx (j2_size cx.htr hF2.la.1) (lw_V q273 q274 q275 q81 q276) dn_J2_size (RN.of rfl rfl rfl rfl) rfl hF2.la.1 rfl rfl rfl (Nat.le_of_ble_eq_true rfl) dX1_strayShare_39 (by omega) (by omega) (pK ?_) (fun E9 q9 h9 hx9 => hx9.elim)
    refine AW.topi (congrArg nI hF2.nl) ?_
    refine a_i2f cx dX1_strayShare_42 ?_
    refine a_fdiv cx dX1_strayShare_43 (nn32 (by omega) hz (by omega)).1 ?_
    exact a_fret cx hq dX1_strayShare_44 ⟨rfl, hs2, hz⟩ (by omega) (by omega)
