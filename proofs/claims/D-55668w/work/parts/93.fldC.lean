/-! THE FIELD: still or not, settling -/
set_option maxRecDepth 100000
theorem g2_up {s : SF} {q : Nat} : ∀ n, 63 + n ≤ q → q < 81 → g2 s n q = s q := by
  intro n
  induction n with
  | zero => intro _ _; rfl
  | succ n ih => intro h1 h2; rw [g2, bel_n (by omega) (by omega), ih (by omega) h2]
theorem g4_up {s : SF} {q : Nat} (hq : q < 81) (h63 : 63 + nS s ≤ q) : ∀ j, g4 s j q = s q := by
  intro j
  induction j with
  | zero => rfl
  | succ j ih =>
    have eS : nS (g4 s j) = nS s := nS_of (g4_fx fx0 j)
    rw [g4, g4s]
    split
    · exact ih
    · cases ho : outl (g4 s j) with
      | none => exact ih
      | some k =>
        have := outl_lt ho
        show g4k _ _ _ _ = _
        rw [g4k_n (by omega) (by omega) (by omega) (by omega) (by omega), ih]
theorem ground_up {s : SF} {k : Nat} (h : nS s ≤ k) (hk : k < 18) : ground s (63 + k) = s (63 + k) := by
  rw [ground_eq, upd_n (by omega)]
  show g4 (rB s) (nH s) (63 + k) = _
  rw [g4_up (by omega) (by rw [nS_of (rB_fx fx0)]; omega)]
  show g3 (rA s) (nH s) (63 + k) = _
  rw [g3_lo (by omega)]
  exact g2_up _ (by omega) (by omega)
theorem same_up (s : SF) (n : Nat) (hn : nS s ≤ n) (h18 : n ≤ 18) : sameOf s (ground s) n = sameOf s (ground s) (nS s) := by
  have : ∀ j, nS s + j ≤ 18 → sameOf s (ground s) (nS s + j) = sameOf s (ground s) (nS s) := by
    intro j
    induction j with
    | zero => intro _; rfl
    | succ j ih =>
      intro h
      show (sameOf s (ground s) (nS s + j) && ground s (63 + (nS s + j)) == s (63 + (nS s + j))) = _
      rw [ground_up (by omega) (by omega), ih (by omega)]
      simp
  have h := this (n - nS s) (by omega)
  rwa [show nS s + (n - nS s) = n by omega] at h
theorem still_eq (s : SF) (h : nS s ≤ 18) : still s = (nH s == 0 || (mvd s (ground s) (nH s) == 0 && sameOf s (ground s) (nS s))) := by
  rw [still, same_up s 18 h (Nat.le_refl _)]
theorem same_f {s t : SF} {k : Nat} (h : sameOf s t k = false) : ∀ n, k ≤ n → sameOf s t n = false := by
  intro n
  induction n with
  | zero => intro hk; rw [show k = 0 by omega] at h; exact h
  | succ n ih =>
    intro hk
    by_cases e : k = n + 1
    · subst e; exact h
    · rw [sameOf, ih (by omega)]; rfl
abbrev rm_X2_isStill : Room := { frames := 20, cells := 129, slots := 3263, locals := 480 }
set_option maxHeartbeats 4000000 in
theorem f2_isStill {lx : Launch} {g : GP} {h : AH} (htr : lx.stackTraces = false) {hb : AH} {f a ea ca b eb cb d : Nat} {ma mb : Int32} {ls lh : List Nat} {s : SF} (hF : FA g hb h f s a ea ma ca b eb mb cb d ls lh) (hWF : WF s) : KT lx g yX2_isStill (ws_ yX2_isStill cX2_isStill 4 (some .boolean)) rm_X2_isStill 129 3263 [.ref f] h (isP (.int (bI (still s))) h) (noX) := by
  refine KT.of (by decide +kernel) htr (Nat.le_of_ble_eq_true rfl) (L0 := [some (.ref f), none, none, none]) rfl ?_
  intro M cx hl9 hq hin hnx
  have hR1 : rm_X2_isStill.cells = 129 := rfl
  have hR2 : rm_X2_isStill.slots = 3263 := rfl
  obtain ⟨hO, rfl⟩ : ∃ z, z = h := ⟨_, rfl⟩
  refine AW.hk fun hk9 => ?_
  have hS := hWF.1
  have hn := hS.2.1
  have hm := hS.2.2.2
  have eGS : nS (ground s) = nS s := nS_of (ground_fx fx0 (by decide))
  refine a_aload_n cx dX2_isStill_0 rfl ?_
  refine c_V cx (f2_copy cx.htr hF hn hm hS) (lw_V q292 q293 q294 q78 q295) dn_X2_copy (RN.of rfl rfl rfl rfl) rfl hF.o rfl rfl rfl (Nat.le_of_ble_eq_true rfl) dX2_isStill_1 (by omega) (by omega) (fun v9 h hp9 => ?_) (fun E9 q9 h9 hx9 => hx9.elim)
  obtain ⟨f2, a2, ea2, ma2, ca2, b2, eb2, mb2, cb2, d2, ls2, lh2, rfl, hF2⟩ := hp9
  have hFc := hF.up hF2.ss
  have hs2 := hF2.ss
  refine a_astore_n cx dX2_isStill_4 (Nat.le_of_ble_eq_true rfl) rfl ?_
  refine a_aload_n cx dX2_isStill_5 rfl ?_
  refine a_get cx fl_X2_18.g dX2_isStill_6 hFc.o (by exact rfl) ?_
  refine c_V cx (j2_isEmpty cx.htr hFc.lb.1 (by have := hFc.nh; omega)) (lw_V q626 q627 q628 q81 q629) dn_J2_isEmpty (RN.of rfl rfl rfl rfl) rfl hFc.lb.1 rfl rfl rfl (Nat.le_of_ble_eq_true rfl) dX2_isStill_9 (by omega) (by omega) (pK ?_) (fun E9 q9 h9 hx9 => hx9.elim)
  refine AW.topi (show _ = bI (nH s == 0) by rw [hFc.nh]) ?_
  refine a_if_ne cx (tgt := 22) dX2_isStill_12 (by decide) (fun c12 => ?_) (fun c12 => ?_)
  · have e0 : nH s = 0 := beq_iff_eq.mp (bI_n0 c12)
    have hst : still s = true := by rw [still, e0]; rfl
    obtain ⟨h2, eh2⟩ : ∃ z, z = h := ⟨_, rfl⟩
    rw [← eh2]
    rw [← eh2] at hFc hs2
    refine a_iconst cx (v := 1) dX2_isStill_22 (by decide) ?_
    refine a_goto cx (tgt := 27) dX2_isStill_23 (by decide) ?_
    refine a_istore_n cx dX2_isStill_27 (Nat.le_of_ble_eq_true rfl) rfl ?_
    refine a_iconst cx (v := 0) dX2_isStill_28 (by decide) ?_
    refine a_istore_n cx dX2_isStill_29 (Nat.le_of_ble_eq_true rfl) rfl ?_
    have loopA : ∀ (j0 k : Nat), k ≤ nS s → nS s < k + j0 → AW g M 129 3263 30 [some (.ref f), some (.ref f2), some (.int 1), some (.int (nI k))] [] h2 := by
      intro j0
      induction j0 with
      | zero => intro k b1 b2; omega
      | succ j0 ih =>
        intro k b1 b2
        refine a_iload_n cx dX2_isStill_30 rfl ?_
        refine a_aload_n cx dX2_isStill_31 rfl ?_
        refine a_get cx fl_X2_12.g dX2_isStill_32 hFc.o (by exact rfl) ?_
        refine c_V cx (j2_size cx.htr hFc.la.1) (lw_V q638 q274 q275 q81 q276) dn_J2_size (RN.of rfl rfl rfl rfl) rfl hFc.la.1 rfl rfl rfl (Nat.le_of_ble_eq_true rfl) dX2_isStill_35 (by omega) (by omega) (pK ?_) (fun E9 q9 h9 hx9 => hx9.elim)
        refine AW.topi (congrArg nI hFc.nl) ?_
        refine a_icmp_ge cx (tgt := 98) dX2_isStill_38 (by decide) (fun c38 => ?_) (fun c38 => ?_)
        · refine a_iload_n cx dX2_isStill_98 rfl ?_
          refine AW.hm hs2 (fun _ => hk9) ?_
          exact a_zret cx hq dX2_isStill_99 rfl ⟨by rw [hst]; rfl, rfl⟩ (by omega) (by omega)
        · have d38 := nle_nI c38 (by omega) (by omega)
          refine a_iload_n cx dX2_isStill_41 rfl ?_
          refine a_if_eq cx (tgt := 98) dX2_isStill_42 (by decide) (fun c42 => absurd c42 (by decide)) (fun c42 => ?_)
          refine a_aload_n cx dX2_isStill_45 rfl ?_
          refine a_get cx fl_X2_18.g dX2_isStill_46 hFc.o (by exact rfl) ?_
          refine c_V cx (j2_isEmpty cx.htr hFc.lb.1 (by have := hFc.nh; omega)) (lw_V q626 q627 q628 q81 q629) dn_J2_isEmpty (RN.of rfl rfl rfl rfl) rfl hFc.lb.1 rfl rfl rfl (Nat.le_of_ble_eq_true rfl) dX2_isStill_49 (by omega) (by omega) (pK ?_) (fun E9 q9 h9 hx9 => hx9.elim)
          refine AW.topi (show _ = bI (nH s == 0) by rw [hFc.nh]) ?_
          refine a_if_ne cx (tgt := 86) dX2_isStill_52 (by decide) (fun c52 => ?_) (fun c52 => absurd c52 (by rw [bI_t (by rw [e0]; rfl)]; decide))
          refine a_iconst cx (v := 1) dX2_isStill_86 (by decide) ?_
          refine a_goto cx (tgt := 91) dX2_isStill_87 (by decide) ?_
          refine a_istore_n cx dX2_isStill_91 (Nat.le_of_ble_eq_true rfl) rfl ?_
          refine a_iincN cx dX2_isStill_92 rfl (Nat.le_of_ble_eq_true rfl) rfl ?_
          refine a_goto cx (tgt := 30) dX2_isStill_95 (by decide) ?_
          exact AW.widen (by omega) (by omega) (ih (k + 1) (by omega) (by omega))
    exact AW.widen (by omega) (by omega) (loopA (nS s + 1) 0 (Nat.zero_le _) (by omega))
  · have e0 : ¬ nH s = 0 := fun z => by have := (bI_0 _).mp c12; rw [z] at this; cases this
    refine a_aload_n cx dX2_isStill_15 rfl ?_
    refine c_V cx (f2_makeRound cx.htr hF2 hWF) (lw_V q630 q632 qs5 q78 q633) dn_X2_makeRound (RN.of rfl rfl rfl rfl) rfl hF2.o rfl rfl rfl (Nat.le_of_ble_eq_true rfl) dX2_isStill_16 (by omega) (by omega) (fun v9 h hp9 => ?_) (fun E9 q9 h9 hx9 => hx9.elim)
    obtain ⟨rfl, hG2⟩ := hp9
    have hFc := hF.up hG2.ss
    have hs2 := hG2.ss
    obtain ⟨h2, eh2⟩ : ∃ z, z = h := ⟨_, rfl⟩
    rw [← eh2]
    rw [← eh2] at hFc hs2 hG2
    refine a_if_ne cx (tgt := 26) dX2_isStill_19 (by decide) (fun c19 => ?_) (fun c19 => ?_)
    · have hmv : (mvd s (ground s) (nH s) == 0) = false := beq_false_of_ne (fun z => c19 (by rw [z]; rfl))
      have hst : still s = false := by rw [still_eq s hn, hmv]; simpa using e0
      refine a_iconst cx (v := 0) dX2_isStill_26 (by decide) ?_
      refine a_istore_n cx dX2_isStill_27 (Nat.le_of_ble_eq_true rfl) rfl ?_
      refine a_iconst cx (v := 0) dX2_isStill_28 (by decide) ?_
      refine a_istore_n cx dX2_isStill_29 (Nat.le_of_ble_eq_true rfl) rfl ?_
      refine a_iload_n cx dX2_isStill_30 rfl ?_
      refine a_aload_n cx dX2_isStill_31 rfl ?_
      refine a_get cx fl_X2_12.g dX2_isStill_32 hFc.o (by exact rfl) ?_
      refine c_V cx (j2_size cx.htr hFc.la.1) (lw_V q638 q274 q275 q81 q276) dn_J2_size (RN.of rfl rfl rfl rfl) rfl hFc.la.1 rfl rfl rfl (Nat.le_of_ble_eq_true rfl) dX2_isStill_35 (by omega) (by omega) (pK ?_) (fun E9 q9 h9 hx9 => hx9.elim)
      refine AW.topi (congrArg nI hFc.nl) ?_
      refine a_icmp_ge cx (tgt := 98) dX2_isStill_38 (by decide) (fun c38 => ?_) (fun c38 => ?_)
      · refine a_iload_n cx dX2_isStill_98 rfl ?_
        refine AW.hm hs2 (fun _ => hk9) ?_
        exact a_zret cx hq dX2_isStill_99 rfl ⟨by rw [hst]; rfl, rfl⟩ (by omega) (by omega)
      · refine a_iload_n cx dX2_isStill_41 rfl ?_
        refine a_if_eq cx (tgt := 98) dX2_isStill_42 (by decide) (fun c42 => ?_) (fun c42 => absurd rfl c42)
        refine a_iload_n cx dX2_isStill_98 rfl ?_
        refine AW.hm hs2 (fun _ => hk9) ?_
        exact a_zret cx hq dX2_isStill_99 rfl ⟨by rw [hst]; rfl, rfl⟩ (by omega) (by omega)
    · have hmv : (mvd s (ground s) (nH s) == 0) = true := beq_iff_eq.mpr (nI_inj (b := 0) (by have := mvd_le s (ground s) (nH s); omega) (by omega) c19)
      refine a_iconst cx (v := 1) dX2_isStill_22 (by decide) ?_
      refine a_goto cx (tgt := 27) dX2_isStill_23 (by decide) ?_
      refine a_istore_n cx dX2_isStill_27 (Nat.le_of_ble_eq_true rfl) rfl ?_
      refine a_iconst cx (v := 0) dX2_isStill_28 (by decide) ?_
      refine a_istore_n cx dX2_isStill_29 (Nat.le_of_ble_eq_true rfl) rfl ?_
      have loopC : ∀ (j0 k : Nat), k ≤ nS s → nS s < k + j0 → sameOf s (ground s) k = true → AW g M 129 3263 30 [some (.ref f), some (.ref f2), some (.int 1), some (.int (nI k))] [] h2 := by
        intro j0
        induction j0 with
        | zero => intro k b1 b2; omega
        | succ j0 ih =>
          intro k b1 b2 hx0
          refine a_iload_n cx dX2_isStill_30 rfl ?_
          refine a_aload_n cx dX2_isStill_31 rfl ?_
          refine a_get cx fl_X2_12.g dX2_isStill_32 hFc.o (by exact rfl) ?_
          refine c_V cx (j2_size cx.htr hFc.la.1) (lw_V q638 q274 q275 q81 q276) dn_J2_size (RN.of rfl rfl rfl rfl) rfl hFc.la.1 rfl rfl rfl (Nat.le_of_ble_eq_true rfl) dX2_isStill_35 (by omega) (by omega) (pK ?_) (fun E9 q9 h9 hx9 => hx9.elim)
          refine AW.topi (congrArg nI hFc.nl) ?_
          refine a_icmp_ge cx (tgt := 98) dX2_isStill_38 (by decide) (fun c38 => ?_) (fun c38 => ?_)
          · have d38 := le_nI c38 (by omega) (by omega)
            have e38 : k = nS s := by omega
            subst e38
            have hst : still s = true := by rw [still_eq s hn, hmv, hx0]; simp
            refine a_iload_n cx dX2_isStill_98 rfl ?_
            refine AW.hm hs2 (fun _ => hk9) ?_
            exact a_zret cx hq dX2_isStill_99 rfl ⟨by rw [hst]; rfl, rfl⟩ (by omega) (by omega)
          · have d38 := nle_nI c38 (by omega) (by omega)
            refine a_iload_n cx dX2_isStill_41 rfl ?_
            refine a_if_eq cx (tgt := 98) dX2_isStill_42 (by decide) (fun c42 => absurd c42 (by decide)) (fun c42 => ?_)
            refine a_aload_n cx dX2_isStill_45 rfl ?_
            refine a_get cx fl_X2_18.g dX2_isStill_46 hFc.o (by exact rfl) ?_
            refine c_V cx (j2_isEmpty cx.htr hFc.lb.1 (by have := hFc.nh; omega)) (lw_V q626 q627 q628 q81 q629) dn_J2_isEmpty (RN.of rfl rfl rfl rfl) rfl hFc.lb.1 rfl rfl rfl (Nat.le_of_ble_eq_true rfl) dX2_isStill_49 (by omega) (by omega) (pK ?_) (fun E9 q9 h9 hx9 => hx9.elim)
            refine AW.topi (show _ = bI (nH s == 0) by rw [hFc.nh]) ?_
            refine a_if_ne cx (tgt := 86) dX2_isStill_52 (by decide) (fun c52 => absurd ((bI_0 _).mpr (by simpa using e0)) c52) (fun c52 => ?_)
            refine a_aload_n cx dX2_isStill_55 rfl ?_
            refine a_get cx fl_X2_12.g dX2_isStill_56 hFc.o (by exact rfl) ?_
            refine a_iload_n cx dX2_isStill_59 rfl ?_
            refine c_V cx (j2_get (i := k) cx.htr hFc.la (by rw [hFc.nl]; exact d38)) (lw_V q639 q426 q427 q81 q428) dn_J2_get (RN.of rfl rfl rfl rfl) rfl hFc.la.1 rfl rfl rfl (Nat.le_of_ble_eq_true rfl) dX2_isStill_60 (by omega) (by omega) (pK ?_) (fun E9 q9 h9 hx9 => hx9.elim)
            refine a_castS (r := (RX4, TX4, 4)) cx q456 dX2_isStill_63 (hFc.sh d38) rfl ?_
            refine a_get cx fl_X2_107.g dX2_isStill_66 (hFc.sh d38) (by exact rfl) ?_
            refine a_aload_n cx dX2_isStill_69 rfl ?_
            refine a_get cx fl_X2_12.g dX2_isStill_70 hG2.o (by exact rfl) ?_
            refine a_iload_n cx dX2_isStill_73 rfl ?_
            refine c_V cx (j2_get (i := k) cx.htr hG2.la (by rw [hG2.nl, eGS]; exact d38)) (lw_V q639 q426 q427 q81 q428) dn_J2_get (RN.of rfl rfl rfl rfl) rfl hG2.la.1 rfl rfl rfl (Nat.le_of_ble_eq_true rfl) dX2_isStill_74 (by omega) (by omega) (pK ?_) (fun E9 q9 h9 hx9 => hx9.elim)
            refine a_castS (r := (RX4, TX4, 4)) cx q456 dX2_isStill_77 (hG2.sh (k := k) (by rw [eGS]; exact d38)) rfl ?_
            refine a_get cx fl_X2_107.g dX2_isStill_80 (hG2.sh (k := k) (by rw [eGS]; exact d38)) (by exact rfl) ?_
            refine a_icmp_ne cx (tgt := 90) dX2_isStill_83 (by decide) (fun c83 => ?_) (fun c83 => ?_)
            · have hx1 : sameOf s (ground s) (k + 1) = false := by rw [sameOf, beq_false_of_ne (fun z => c83 z.symm)]; exact Bool.and_false _
              have hst : still s = false := by rw [still_eq s hn, same_f hx1 _ (by omega)]; simpa using e0
              refine a_iconst cx (v := 0) dX2_isStill_90 (by decide) ?_
              refine a_istore_n cx dX2_isStill_91 (Nat.le_of_ble_eq_true rfl) rfl ?_
              refine a_iincN cx dX2_isStill_92 rfl (Nat.le_of_ble_eq_true rfl) rfl ?_
              refine a_goto cx (tgt := 30) dX2_isStill_95 (by decide) ?_
              refine a_iload_n cx dX2_isStill_30 rfl ?_
              refine a_aload_n cx dX2_isStill_31 rfl ?_
              refine a_get cx fl_X2_12.g dX2_isStill_32 hFc.o (by exact rfl) ?_
              refine c_V cx (j2_size cx.htr hFc.la.1) (lw_V q638 q274 q275 q81 q276) dn_J2_size (RN.of rfl rfl rfl rfl) rfl hFc.la.1 rfl rfl rfl (Nat.le_of_ble_eq_true rfl) dX2_isStill_35 (by omega) (by omega) (pK ?_) (fun E9 q9 h9 hx9 => hx9.elim)
              refine AW.topi (congrArg nI hFc.nl) ?_
              refine a_icmp_ge cx (tgt := 98) dX2_isStill_38 (by decide) (fun c38 => ?_) (fun c38 => ?_)
              · refine a_iload_n cx dX2_isStill_98 rfl ?_
                refine AW.hm hs2 (fun _ => hk9) ?_
                exact a_zret cx hq dX2_isStill_99 rfl ⟨by rw [hst]; rfl, rfl⟩ (by omega) (by omega)
              · refine a_iload_n cx dX2_isStill_41 rfl ?_
                refine a_if_eq cx (tgt := 98) dX2_isStill_42 (by decide) (fun c42 => ?_) (fun c42 => absurd rfl c42)
                refine a_iload_n cx dX2_isStill_98 rfl ?_
                refine AW.hm hs2 (fun _ => hk9) ?_
                exact a_zret cx hq dX2_isStill_99 rfl ⟨by rw [hst]; rfl, rfl⟩ (by omega) (by omega)
            · have hx1 : sameOf s (ground s) (k + 1) = true := by rw [sameOf, hx0, beq_iff_eq.mpr c83.symm]; rfl
              refine a_iconst cx (v := 1) dX2_isStill_86 (by decide) ?_
              refine a_goto cx (tgt := 91) dX2_isStill_87 (by decide) ?_
              refine a_istore_n cx dX2_isStill_91 (Nat.le_of_ble_eq_true rfl) rfl ?_
              refine a_iincN cx dX2_isStill_92 rfl (Nat.le_of_ble_eq_true rfl) rfl ?_
              refine a_goto cx (tgt := 30) dX2_isStill_95 (by decide) ?_
              exact AW.widen (by omega) (by omega) (ih (k + 1) (by omega) (by omega) hx1)
      exact AW.widen (by omega) (by omega) (loopC (nS s + 1) 0 (Nat.zero_le _) (by omega) rfl)
