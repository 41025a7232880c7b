/-! THE FIELD: what it answers -/
set_option maxRecDepth 100000
theorem oI_s {b : Nat} (h : b < 2 ^ 31) : ¬ oI (some b) = -1 := ne_m1 h
abbrev rm_X2_nearests : Room := { frames := 3, cells := 0, slots := 0, locals := 64 }
set_option maxHeartbeats 4000000 in
theorem f2_nearests {lx : Launch} {g : GP} {h : AH} (htr : lx.stackTraces = false) {hb : AH} {f a ea ca b eb cb d : Nat} {ma mb : Int32} {ls lh : List Nat} {s : SF} (hF : FA g hb h f s a ea ma ca b eb mb cb d ls lh) (hn : nS s ≤ 18) (hm : nH s ≤ 6) {q : Nat} {x y w u0 : Int32} (hp : h q = some (shE x y w u0)) : KT lx g yX2_nearest (ws_ yX2_nearest cX2_nearest 5 (some .int)) rm_X2_nearests 0 0 [.ref f, .ref q] h (isP (.int (oI (near s x y))) h) (noX) := by
  refine KT.of (by decide +kernel) htr (Nat.le_of_ble_eq_true rfl) (L0 := [some (.ref f), some (.ref q), none, none, none]) rfl ?_
  intro M cx hl9 hq hin hnx
  refine a_iconst cx (v := -1) dX2_nearest_0 (by decide) ?_
  refine a_istore_n cx dX2_nearest_1 (Nat.le_of_ble_eq_true rfl) rfl ?_
  refine a_iconst cx (v := 0) dX2_nearest_2 (by decide) ?_
  refine a_istore_n cx dX2_nearest_3 (Nat.le_of_ble_eq_true rfl) rfl ?_
  have loop : ∀ (j k : Nat), k ≤ nH s → nH s < k + j → AW g M 0 0 4 [some (.ref f), some (.ref q), some (.int (oI (nr s x y k))), some (.int (nI k)), none] [] h := by
    intro j
    induction j with
    | zero => intro k h1 h2; omega
    | succ j ih =>
      intro k h1 h2
      refine a_iload_n cx dX2_nearest_4 rfl ?_
      refine a_aload_n cx dX2_nearest_5 rfl ?_
      refine a_get cx fl_X2_18.g dX2_nearest_6 hF.o (by exact rfl) ?_
      refine c_V cx (j2_size cx.htr hF.lb.1) (lw_V q638 q274 q275 q81 q276) dn_J2_size (RN.of rfl rfl rfl rfl) rfl hF.lb.1 rfl rfl rfl (Nat.le_of_ble_eq_true rfl) dX2_nearest_9 (Nat.le_of_ble_eq_true rfl) (Nat.le_of_ble_eq_true rfl) (pK ?_) (fun E9 q9 h9 hx9 => hx9.elim)
      refine AW.topi (congrArg nI hF.nh) ?_
      refine a_icmp_ge cx (tgt := 81) dX2_nearest_12 (by decide) (fun c12 => ?_) (fun c12 => ?_)
      · have d12 := le_nI c12 (by omega) (by omega)
        have e12 : k = nH s := by omega
        subst e12
        refine a_iload_n cx dX2_nearest_81 rfl ?_
        exact a_iret cx hq dX2_nearest_82 ⟨rfl, rfl⟩ (Nat.le_of_ble_eq_true rfl) (Nat.le_of_ble_eq_true rfl)
      · have d12 := nle_nI c12 (by omega) (by omega)
        rcases hnr : nr s x y k with _ | b
        · skip
          refine a_iload_n cx dX2_nearest_15 rfl ?_
          refine a_iconst cx (v := -1) dX2_nearest_16 (by decide) ?_
          refine a_icmp_eq cx (tgt := 57) dX2_nearest_17 (by decide) (fun c17 => ?_) (fun c17 => absurd rfl c17)
          refine a_iconst cx (v := 1) dX2_nearest_57 (by decide) ?_
          refine a_goto cx (tgt := 62) dX2_nearest_58 (by decide) ?_
          refine a_istore cx dX2_nearest_62 (Nat.le_of_ble_eq_true rfl) rfl ?_
          refine a_iload cx dX2_nearest_64 rfl ?_
          refine a_if_eq cx (tgt := 73) dX2_nearest_66 (by decide) (fun c66 => absurd c66 (by decide)) (fun c66 => ?_)
          refine a_iload_n cx dX2_nearest_69 rfl ?_
          refine a_goto cx (tgt := 74) dX2_nearest_70 (by decide) ?_
          refine a_istore_n cx dX2_nearest_74 (Nat.le_of_ble_eq_true rfl) rfl ?_
          refine a_iincN cx dX2_nearest_75 rfl (Nat.le_of_ble_eq_true rfl) rfl ?_
          refine a_goto cx (tgt := 4) dX2_nearest_78 (by decide) ?_
          have hgo := ih (k + 1) (by omega) (by omega)
          rw [show nr s x y (k + 1) = some k from by rw [nr, hnr]] at hgo
          refine AW.loc ?_ hgo
          exact ⟨rfl, rfl, rfl, rfl, trivial⟩
        · have hb2 := nr_lt hnr
          refine a_iload_n cx dX2_nearest_15 rfl ?_
          refine a_iconst cx (v := -1) dX2_nearest_16 (by decide) ?_
          refine a_icmp_eq cx (tgt := 57) dX2_nearest_17 (by decide) (fun c17 => absurd c17 (oI_s (by omega))) (fun c17 => ?_)
          refine a_aload_n cx dX2_nearest_20 rfl ?_
          refine a_aload_n cx dX2_nearest_21 rfl ?_
          refine a_get cx fl_X2_18.g dX2_nearest_22 hF.o (by exact rfl) ?_
          refine a_iload_n cx dX2_nearest_25 rfl ?_
          refine c_V cx (j2_get (i := k) cx.htr hF.lb (by rw [hF.nh]; exact d12)) (lw_V q639 q426 q427 q81 q428) dn_J2_get (RN.of rfl rfl rfl rfl) rfl hF.lb.1 rfl rfl rfl (Nat.le_of_ble_eq_true rfl) dX2_nearest_26 (Nat.le_of_ble_eq_true rfl) (Nat.le_of_ble_eq_true rfl) (pK ?_) (fun E9 q9 h9 hx9 => hx9.elim)
          refine a_castI (RX5, TX5, 2) cx q640 q577 dX2_nearest_29 (hF.hu d12) rfl ?_
          refine c_FD (C := "FlockHuts$Sheep") cx (f8_distancesh (w2 := 0) (u2 := 0) cx.htr hp (hF.hu d12)) (lw_meth q648) q642 q644 q646 q589 q107 (by decide +kernel) (RN.of rfl rfl rfl rfl) rfl hp rfl rfl rfl (Nat.le_of_ble_eq_true rfl) dX2_nearest_32 (Nat.le_of_ble_eq_true rfl) (Nat.le_of_ble_eq_true rfl) (pK ?_)
          refine AW.topi (show _ = fTo s x y k from rfl) ?_
          refine a_aload_n cx dX2_nearest_37 rfl ?_
          refine a_aload_n cx dX2_nearest_38 rfl ?_
          refine a_get cx fl_X2_18.g dX2_nearest_39 hF.o (by exact rfl) ?_
          refine a_iload_n cx dX2_nearest_42 rfl ?_
          refine c_V cx (j2_get (i := b) cx.htr hF.lb (by rw [hF.nh]; exact (by omega))) (lw_V q639 q426 q427 q81 q428) dn_J2_get (RN.of rfl rfl rfl rfl) rfl hF.lb.1 rfl rfl rfl (Nat.le_of_ble_eq_true rfl) dX2_nearest_43 (Nat.le_of_ble_eq_true rfl) (Nat.le_of_ble_eq_true rfl) (pK ?_) (fun E9 q9 h9 hx9 => hx9.elim)
          refine a_castI (RX5, TX5, 2) cx q640 q577 dX2_nearest_46 (hF.hu (j := b) (by omega)) rfl ?_
          refine c_FD (C := "FlockHuts$Sheep") cx (f8_distancesh (w2 := 0) (u2 := 0) cx.htr hp (hF.hu (j := b) (by omega))) (lw_meth q648) q642 q644 q646 q589 q107 (by decide +kernel) (RN.of rfl rfl rfl rfl) rfl hp rfl rfl rfl (Nat.le_of_ble_eq_true rfl) dX2_nearest_49 (Nat.le_of_ble_eq_true rfl) (Nat.le_of_ble_eq_true rfl) (pK ?_)
          refine AW.topi (show _ = fTo s x y b from rfl) ?_
          refine a_icmp_ge cx (tgt := 61) dX2_nearest_54 (by decide) (fun c54 => ?_) (fun c54 => ?_)
          · have d54 : ¬ fTo s x y k < fTo s x y b := Int32.not_lt.mpr c54
            refine a_iconst cx (v := 0) dX2_nearest_61 (by decide) ?_
            refine a_istore cx dX2_nearest_62 (Nat.le_of_ble_eq_true rfl) rfl ?_
            refine a_iload cx dX2_nearest_64 rfl ?_
            refine a_if_eq cx (tgt := 73) dX2_nearest_66 (by decide) (fun c66 => ?_) (fun c66 => absurd rfl c66)
            refine a_iload_n cx dX2_nearest_73 rfl ?_
            refine a_istore_n cx dX2_nearest_74 (Nat.le_of_ble_eq_true rfl) rfl ?_
            refine a_iincN cx dX2_nearest_75 rfl (Nat.le_of_ble_eq_true rfl) rfl ?_
            refine a_goto cx (tgt := 4) dX2_nearest_78 (by decide) ?_
            have hgo := ih (k + 1) (by omega) (by omega)
            rw [show nr s x y (k + 1) = some b from by rw [nr, hnr]; exact if_neg d54] at hgo
            refine AW.loc ?_ hgo
            exact ⟨rfl, rfl, rfl, rfl, trivial⟩
          · have d54 : fTo s x y k < fTo s x y b := Int32.not_le.mp c54
            refine a_iconst cx (v := 1) dX2_nearest_57 (by decide) ?_
            refine a_goto cx (tgt := 62) dX2_nearest_58 (by decide) ?_
            refine a_istore cx dX2_nearest_62 (Nat.le_of_ble_eq_true rfl) rfl ?_
            refine a_iload cx dX2_nearest_64 rfl ?_
            refine a_if_eq cx (tgt := 73) dX2_nearest_66 (by decide) (fun c66 => absurd c66 (by decide)) (fun c66 => ?_)
            refine a_iload_n cx dX2_nearest_69 rfl ?_
            refine a_goto cx (tgt := 74) dX2_nearest_70 (by decide) ?_
            refine a_istore_n cx dX2_nearest_74 (Nat.le_of_ble_eq_true rfl) rfl ?_
            refine a_iincN cx dX2_nearest_75 rfl (Nat.le_of_ble_eq_true rfl) rfl ?_
            refine a_goto cx (tgt := 4) dX2_nearest_78 (by decide) ?_
            have hgo := ih (k + 1) (by omega) (by omega)
            rw [show nr s x y (k + 1) = some k from by rw [nr, hnr]; exact if_pos d54] at hgo
            refine AW.loc ?_ hgo
            exact ⟨rfl, rfl, rfl, rfl, trivial⟩
  exact loop (nH s + 1) 0 (by omega) (by omega)
abbrev rm_X2_nearestp : Room := { frames := 3, cells := 0, slots := 0, locals := 64 }
set_option maxHeartbeats 4000000 in
theorem f2_nearestp {lx : Launch} {g : GP} {h : AH} (htr : lx.stackTraces = false) {hb : AH} {f a ea ca b eb cb d : Nat} {ma mb : Int32} {ls lh : List Nat} {s : SF} (hF : FA g hb h f s a ea ma ca b eb mb cb d ls lh) (hn : nS s ≤ 18) (hm : nH s ≤ 6) {q : Nat} {x y w u0 : Int32} (hp : h q = some (plE x y)) : KT lx g yX2_nearest (ws_ yX2_nearest cX2_nearest 5 (some .int)) rm_X2_nearestp 0 0 [.ref f, .ref q] h (isP (.int (oI (near s x y))) h) (noX) := by
  refine KT.of (by decide +kernel) htr (Nat.le_of_ble_eq_true rfl) (L0 := [some (.ref f), some (.ref q), none, none, none]) rfl ?_
  intro M cx hl9 hq hin hnx
  refine a_iconst cx (v := -1) dX2_nearest_0 (by decide) ?_
  refine a_istore_n cx dX2_nearest_1 (Nat.le_of_ble_eq_true rfl) rfl ?_
  refine a_iconst cx (v := 0) dX2_nearest_2 (by decide) ?_
  refine a_istore_n cx dX2_nearest_3 (Nat.le_of_ble_eq_true rfl) rfl ?_
  have loop : ∀ (j k : Nat), k ≤ nH s → nH s < k + j → AW g M 0 0 4 [some (.ref f), some (.ref q), some (.int (oI (nr s x y k))), some (.int (nI k)), none] [] h := by
    intro j
    induction j with
    | zero => intro k h1 h2; omega
    | succ j ih =>
      intro k h1 h2
      refine a_iload_n cx dX2_nearest_4 rfl ?_
      refine a_aload_n cx dX2_nearest_5 rfl ?_
      refine a_get cx fl_X2_18.g dX2_nearest_6 hF.o (by exact rfl) ?_
      refine c_V cx (j2_size cx.htr hF.lb.1) (lw_V q638 q274 q275 q81 q276) dn_J2_size (RN.of rfl rfl rfl rfl) rfl hF.lb.1 rfl rfl rfl (Nat.le_of_ble_eq_true rfl) dX2_nearest_9 (Nat.le_of_ble_eq_true rfl) (Nat.le_of_ble_eq_true rfl) (pK ?_) (fun E9 q9 h9 hx9 => hx9.elim)
      refine AW.topi (congrArg nI hF.nh) ?_
      refine a_icmp_ge cx (tgt := 81) dX2_nearest_12 (by decide) (fun c12 => ?_) (fun c12 => ?_)
      · have d12 := le_nI c12 (by omega) (by omega)
        have e12 : k = nH s := by omega
        subst e12
        refine a_iload_n cx dX2_nearest_81 rfl ?_
        exact a_iret cx hq dX2_nearest_82 ⟨rfl, rfl⟩ (Nat.le_of_ble_eq_true rfl) (Nat.le_of_ble_eq_true rfl)
      · have d12 := nle_nI c12 (by omega) (by omega)
        rcases hnr : nr s x y k with _ | b
        · skip
          refine a_iload_n cx dX2_nearest_15 rfl ?_
          refine a_iconst cx (v := -1) dX2_nearest_16 (by decide) ?_
          refine a_icmp_eq cx (tgt := 57) dX2_nearest_17 (by decide) (fun c17 => ?_) (fun c17 => absurd rfl c17)
          refine a_iconst cx (v := 1) dX2_nearest_57 (by decide) ?_
          refine a_goto cx (tgt := 62) dX2_nearest_58 (by decide) ?_
          refine a_istore cx dX2_nearest_62 (Nat.le_of_ble_eq_true rfl) rfl ?_
          refine a_iload cx dX2_nearest_64 rfl ?_
          refine a_if_eq cx (tgt := 73) dX2_nearest_66 (by decide) (fun c66 => absurd c66 (by decide)) (fun c66 => ?_)
          refine a_iload_n cx dX2_nearest_69 rfl ?_
          refine a_goto cx (tgt := 74) dX2_nearest_70 (by decide) ?_
          refine a_istore_n cx dX2_nearest_74 (Nat.le_of_ble_eq_true rfl) rfl ?_
          refine a_iincN cx dX2_nearest_75 rfl (Nat.le_of_ble_eq_true rfl) rfl ?_
          refine a_goto cx (tgt := 4) dX2_nearest_78 (by decide) ?_
          have hgo := ih (k + 1) (by omega) (by omega)
          rw [show nr s x y (k + 1) = some k from by rw [nr, hnr]] at hgo
          refine AW.loc ?_ hgo
          exact ⟨rfl, rfl, rfl, rfl, trivial⟩
        · have hb2 := nr_lt hnr
          refine a_iload_n cx dX2_nearest_15 rfl ?_
          refine a_iconst cx (v := -1) dX2_nearest_16 (by decide) ?_
          refine a_icmp_eq cx (tgt := 57) dX2_nearest_17 (by decide) (fun c17 => absurd c17 (oI_s (by omega))) (fun c17 => ?_)
          refine a_aload_n cx dX2_nearest_20 rfl ?_
          refine a_aload_n cx dX2_nearest_21 rfl ?_
          refine a_get cx fl_X2_18.g dX2_nearest_22 hF.o (by exact rfl) ?_
          refine a_iload_n cx dX2_nearest_25 rfl ?_
          refine c_V cx (j2_get (i := k) cx.htr hF.lb (by rw [hF.nh]; exact d12)) (lw_V q639 q426 q427 q81 q428) dn_J2_get (RN.of rfl rfl rfl rfl) rfl hF.lb.1 rfl rfl rfl (Nat.le_of_ble_eq_true rfl) dX2_nearest_26 (Nat.le_of_ble_eq_true rfl) (Nat.le_of_ble_eq_true rfl) (pK ?_) (fun E9 q9 h9 hx9 => hx9.elim)
          refine a_castI (RX5, TX5, 2) cx q640 q577 dX2_nearest_29 (hF.hu d12) rfl ?_
          refine c_FD (C := "FlockHuts$Placed$1") cx (f8_distanceph (w1 := 0) (u1 := 0) (w2 := 0) (u2 := 0) cx.htr hp (hF.hu d12)) (lw_meth q648) q642 q644 q646 q583 q107 (by decide +kernel) (RN.of rfl rfl rfl rfl) rfl hp rfl rfl rfl (Nat.le_of_ble_eq_true rfl) dX2_nearest_32 (Nat.le_of_ble_eq_true rfl) (Nat.le_of_ble_eq_true rfl) (pK ?_)
          refine AW.topi (show _ = fTo s x y k from rfl) ?_
          refine a_aload_n cx dX2_nearest_37 rfl ?_
          refine a_aload_n cx dX2_nearest_38 rfl ?_
          refine a_get cx fl_X2_18.g dX2_nearest_39 hF.o (by exact rfl) ?_
          refine a_iload_n cx dX2_nearest_42 rfl ?_
          refine c_V cx (j2_get (i := b) cx.htr hF.lb (by rw [hF.nh]; exact (by omega))) (lw_V q639 q426 q427 q81 q428) dn_J2_get (RN.of rfl rfl rfl rfl) rfl hF.lb.1 rfl rfl rfl (Nat.le_of_ble_eq_true rfl) dX2_nearest_43 (Nat.le_of_ble_eq_true rfl) (Nat.le_of_ble_eq_true rfl) (pK ?_) (fun E9 q9 h9 hx9 => hx9.elim)
          refine a_castI (RX5, TX5, 2) cx q640 q577 dX2_nearest_46 (hF.hu (j := b) (by omega)) rfl ?_
          refine c_FD (C := "FlockHuts$Placed$1") cx (f8_distanceph (w1 := 0) (u1 := 0) (w2 := 0) (u2 := 0) cx.htr hp (hF.hu (j := b) (by omega))) (lw_meth q648) q642 q644 q646 q583 q107 (by decide +kernel) (RN.of rfl rfl rfl rfl) rfl hp rfl rfl rfl (Nat.le_of_ble_eq_true rfl) dX2_nearest_49 (Nat.le_of_ble_eq_true rfl) (Nat.le_of_ble_eq_true rfl) (pK ?_)
          refine AW.topi (show _ = fTo s x y b from rfl) ?_
          refine a_icmp_ge cx (tgt := 61) dX2_nearest_54 (by decide) (fun c54 => ?_) (fun c54 => ?_)
          · have d54 : ¬ fTo s x y k < fTo s x y b := Int32.not_lt.mpr c54
            refine a_iconst cx (v := 0) dX2_nearest_61 (by decide) ?_
            refine a_istore cx dX2_nearest_62 (Nat.le_of_ble_eq_true rfl) rfl ?_
            refine a_iload cx dX2_nearest_64 rfl ?_
            refine a_if_eq cx (tgt := 73) dX2_nearest_66 (by decide) (fun c66 => ?_) (fun c66 => absurd rfl c66)
            refine a_iload_n cx dX2_nearest_73 rfl ?_
            refine a_istore_n cx dX2_nearest_74 (Nat.le_of_ble_eq_true rfl) rfl ?_
            refine a_iincN cx dX2_nearest_75 rfl (Nat.le_of_ble_eq_true rfl) rfl ?_
            refine a_goto cx (tgt := 4) dX2_nearest_78 (by decide) ?_
            have hgo := ih (k + 1) (by omega) (by omega)
            rw [show nr s x y (k + 1) = some b from by rw [nr, hnr]; exact if_neg d54] at hgo
            refine AW.loc ?_ hgo
            exact ⟨rfl, rfl, rfl, rfl, trivial⟩
          · have d54 : fTo s x y k < fTo s x y b := Int32.not_le.mp c54
            refine a_iconst cx (v := 1) dX2_nearest_57 (by decide) ?_
            refine a_goto cx (tgt := 62) dX2_nearest_58 (by decide) ?_
            refine a_istore cx dX2_nearest_62 (Nat.le_of_ble_eq_true rfl) rfl ?_
            refine a_iload cx dX2_nearest_64 rfl ?_
            refine a_if_eq cx (tgt := 73) dX2_nearest_66 (by decide) (fun c66 => absurd c66 (by decide)) (fun c66 => ?_)
            refine a_iload_n cx dX2_nearest_69 rfl ?_
            refine a_goto cx (tgt := 74) dX2_nearest_70 (by decide) ?_
            refine a_istore_n cx dX2_nearest_74 (Nat.le_of_ble_eq_true rfl) rfl ?_
            refine a_iincN cx dX2_nearest_75 rfl (Nat.le_of_ble_eq_true rfl) rfl ?_
            refine a_goto cx (tgt := 4) dX2_nearest_78 (by decide) ?_
            have hgo := ih (k + 1) (by omega) (by omega)
            rw [show nr s x y (k + 1) = some k from by rw [nr, hnr]; exact if_pos d54] at hgo
            refine AW.loc ?_ hgo
            exact ⟨rfl, rfl, rfl, rfl, trivial⟩
  exact loop (nH s + 1) 0 (by omega) (by omega)
abbrev rm_X2_distance : Room := { frames := 3, cells := 0, slots := 0, locals := 64 }
set_option maxHeartbeats 4000000 in
theorem f2_distance {lx : Launch} {g : GP} {h : AH} (htr : lx.stackTraces = false) {hb : AH} {f a ea ca b eb cb d : Nat} {ma mb : Int32} {ls lh : List Nat} {s : SF} (hF : FA g hb h f s a ea ma ca b eb mb cb d ls lh) (hn : nS s ≤ 18) (hm : nH s ≤ 6) {k : Nat} (hk : k < nS s) (hW : isO (s (63 + k)) (nH s)) : KT lx g yX2_distance (ws_ yX2_distance cX2_distance 2 (some .int)) rm_X2_distance 0 0 [.ref f, .ref (ls.getD k 0)] h (isP (.int (farO s k)) h) (noX) := by
  refine KT.of (by decide +kernel) htr (Nat.le_of_ble_eq_true rfl) (L0 := [some (.ref f), some (.ref (ls.getD k 0))]) rfl ?_
  intro M cx hl9 hq hin hnx
  refine a_aload_n cx dX2_distance_0 rfl ?_
  refine a_get cx fl_X2_107.g dX2_distance_1 (hF.sh hk) (by exact rfl) ?_
  refine a_iconst cx (v := -1) dX2_distance_4 (by decide) ?_
  refine a_icmp_ne cx (tgt := 12) dX2_distance_5 (by decide) (fun c5 => ?_) (fun c5 => ?_)
  · obtain ⟨j, hj, ej⟩ := hW.resolve_left c5
    have r : farO s k = far s k j := by rw [farO, if_neg c5, ej, oN_nI (by omega)]
    refine a_aload_n cx dX2_distance_12 rfl ?_
    refine a_aload_n cx dX2_distance_13 rfl ?_
    refine a_get cx fl_X2_18.g dX2_distance_14 hF.o (by exact rfl) ?_
    refine a_aload_n cx dX2_distance_17 rfl ?_
    refine a_get cx fl_X2_107.g dX2_distance_18 (hF.sh hk) (by exact rfl) ?_
    refine AW.topi ej ?_
    refine c_V cx (j2_get (i := j) cx.htr hF.lb (by rw [hF.nh]; exact hj)) (lw_V q639 q426 q427 q81 q428) dn_J2_get (RN.of rfl rfl rfl rfl) rfl hF.lb.1 rfl rfl rfl (Nat.le_of_ble_eq_true rfl) dX2_distance_21 (Nat.le_of_ble_eq_true rfl) (Nat.le_of_ble_eq_true rfl) (pK ?_) (fun E9 q9 h9 hx9 => hx9.elim)
    refine a_castI (RX5, TX5, 2) cx q640 q577 dX2_distance_24 (hF.hu hj) rfl ?_
    refine c_VD (na := 1) cx (f8_distancesh (w2 := 0) (u2 := 0) cx.htr (hF.sh hk) (hF.hu hj)) (lw_meth q648) (List.mem_of_getElem? (i := 0) rfl) (List.mem_of_getElem? (i := 1) rfl) q644 q646 q107 (by decide +kernel) (RN.of rfl rfl rfl rfl) rfl (by decide +kernel) (hF.sh hk) rfl rfl rfl (Nat.le_of_ble_eq_true rfl) dX2_distance_27 (Nat.le_of_ble_eq_true rfl) (Nat.le_of_ble_eq_true rfl) (pK ?_)
    refine AW.topi (show _ = far s k j from rfl) ?_
    exact a_iret cx hq dX2_distance_30 ⟨by rw [r], rfl⟩ (Nat.le_of_ble_eq_true rfl) (Nat.le_of_ble_eq_true rfl)
  · have r : farO s k = -1 := by rw [farO, if_pos c5]
    refine a_iconst cx (v := -1) dX2_distance_8 (by decide) ?_
    refine a_goto cx (tgt := 30) dX2_distance_9 (by decide) ?_
    exact a_iret cx hq dX2_distance_30 ⟨by rw [r], rfl⟩ (Nat.le_of_ble_eq_true rfl) (Nat.le_of_ble_eq_true rfl)
abbrev rm_X2_isStray : Room := { frames := 4, cells := 0, slots := 0, locals := 88 }
set_option maxHeartbeats 4000000 in
theorem f2_isStray {lx : Launch} {g : GP} {h : AH} (htr : lx.stackTraces = false) {hb : AH} {f a ea ca b eb cb d : Nat} {ma mb : Int32} {ls lh : List Nat} {s : SF} (hF : FA g hb h f s a ea ma ca b eb mb cb d ls lh) (hn : nS s ≤ 18) (hm : nH s ≤ 6) {k : Nat} (hk : k < nS s) (hW : isO (s (63 + k)) (nH s)) : KT lx g yX2_isStray (ws_ yX2_isStray cX2_isStray 3 (some .boolean)) rm_X2_isStray 0 0 [.ref f, .ref (ls.getD k 0)] h (isP (.int (bI (stray s k))) h) (noX) := by
  refine KT.of (by decide +kernel) htr (Nat.le_of_ble_eq_true rfl) (L0 := [some (.ref f), some (.ref (ls.getD k 0)), none]) rfl ?_
  intro M cx hl9 hq hin hnx
  refine a_aload_n cx dX2_isStray_0 rfl ?_
  refine a_aload_n cx dX2_isStray_1 rfl ?_
  refine c_V cx (f2_nearests cx.htr hF hn hm (hF.sh hk)) (lw_V q634 q635 q636 q78 q637) dn_X2_nearest (RN.of rfl rfl rfl rfl) rfl hF.o rfl rfl rfl (Nat.le_of_ble_eq_true rfl) dX2_isStray_2 (Nat.le_of_ble_eq_true rfl) (Nat.le_of_ble_eq_true rfl) (pK ?_) (fun E9 q9 h9 hx9 => hx9.elim)
  refine AW.topi (show _ = oI (nearO s k) from rfl) ?_
  refine a_istore_n cx dX2_isStray_5 (Nat.le_of_ble_eq_true rfl) rfl ?_
  rcases hno : nearO s k with _ | b
  · have r : stray s k = false := by rw [stray, hno]
    refine a_iload_n cx dX2_isStray_6 rfl ?_
    refine a_iconst cx (v := -1) dX2_isStray_7 (by decide) ?_
    refine a_icmp_eq cx (tgt := 46) dX2_isStray_8 (by decide) (fun c8 => ?_) (fun c8 => absurd rfl c8)
    refine a_iconst cx (v := 0) dX2_isStray_46 (by decide) ?_
    exact a_zret cx hq dX2_isStray_47 rfl ⟨by rw [r]; rfl, rfl⟩ (Nat.le_of_ble_eq_true rfl) (Nat.le_of_ble_eq_true rfl)
  · have hb2 : b < nH s := nearO_lt hno
    have hst : stray s k = (s (63 + k) == -1 || decide (far s k b < far s k (oN (s (63 + k))))) := by rw [stray, hno]
    refine a_iload_n cx dX2_isStray_6 rfl ?_
    refine a_iconst cx (v := -1) dX2_isStray_7 (by decide) ?_
    refine a_icmp_eq cx (tgt := 46) dX2_isStray_8 (by decide) (fun c8 => absurd c8 (oI_s (by omega))) (fun c8 => ?_)
    refine a_aload_n cx dX2_isStray_11 rfl ?_
    refine a_get cx fl_X2_107.g dX2_isStray_12 (hF.sh hk) (by exact rfl) ?_
    refine a_iconst cx (v := -1) dX2_isStray_15 (by decide) ?_
    refine a_icmp_eq cx (tgt := 42) dX2_isStray_16 (by decide) (fun c16 => ?_) (fun c16 => ?_)
    · have r : stray s k = true := by rw [hst, c16]; rfl
      refine a_iconst cx (v := 1) dX2_isStray_42 (by decide) ?_
      refine a_goto cx (tgt := 47) dX2_isStray_43 (by decide) ?_
      exact a_zret cx hq dX2_isStray_47 rfl ⟨by rw [r]; rfl, rfl⟩ (Nat.le_of_ble_eq_true rfl) (Nat.le_of_ble_eq_true rfl)
    · have hfo : farO s k = far s k (oN (s (63 + k))) := by rw [farO, if_neg c16]
      refine a_aload_n cx dX2_isStray_19 rfl ?_
      refine a_aload_n cx dX2_isStray_20 rfl ?_
      refine a_get cx fl_X2_18.g dX2_isStray_21 hF.o (by exact rfl) ?_
      refine a_iload_n cx dX2_isStray_24 rfl ?_
      refine c_V cx (j2_get (i := b) cx.htr hF.lb (by rw [hF.nh]; exact hb2)) (lw_V q639 q426 q427 q81 q428) dn_J2_get (RN.of rfl rfl rfl rfl) rfl hF.lb.1 rfl rfl rfl (Nat.le_of_ble_eq_true rfl) dX2_isStray_25 (Nat.le_of_ble_eq_true rfl) (Nat.le_of_ble_eq_true rfl) (pK ?_) (fun E9 q9 h9 hx9 => hx9.elim)
      refine a_castI (RX5, TX5, 2) cx q640 q577 dX2_isStray_28 (hF.hu hb2) rfl ?_
      refine c_VD (na := 1) cx (f8_distancesh (w2 := 0) (u2 := 0) cx.htr (hF.sh hk) (hF.hu (j := b) hb2)) (lw_meth q648) (List.mem_of_getElem? (i := 0) rfl) (List.mem_of_getElem? (i := 1) rfl) q644 q646 q107 (by decide +kernel) (RN.of rfl rfl rfl rfl) rfl (by decide +kernel) (hF.sh hk) rfl rfl rfl (Nat.le_of_ble_eq_true rfl) dX2_isStray_31 (Nat.le_of_ble_eq_true rfl) (Nat.le_of_ble_eq_true rfl) (pK ?_)
      refine AW.topi (show _ = far s k b from rfl) ?_
      refine a_aload_n cx dX2_isStray_34 rfl ?_
      refine a_aload_n cx dX2_isStray_35 rfl ?_
      refine c_V cx (f2_distance cx.htr hF hn hm hk hW) (lw_V q732 q733 q734 q78 q735) dn_X2_distance (RN.of rfl rfl rfl rfl) rfl hF.o rfl rfl rfl (Nat.le_of_ble_eq_true rfl) dX2_isStray_36 (Nat.le_of_ble_eq_true rfl) (Nat.le_of_ble_eq_true rfl) (pK ?_) (fun E9 q9 h9 hx9 => hx9.elim)
      refine a_icmp_ge cx (tgt := 46) dX2_isStray_39 (by decide) (fun c39 => ?_) (fun c39 => ?_)
      · have r : stray s k = false := by rw [hst, beq_false_of_ne c16, decide_eq_false (Int32.not_lt.mpr (hfo ▸ c39))]; rfl
        refine a_iconst cx (v := 0) dX2_isStray_46 (by decide) ?_
        exact a_zret cx hq dX2_isStray_47 rfl ⟨by rw [r]; rfl, rfl⟩ (Nat.le_of_ble_eq_true rfl) (Nat.le_of_ble_eq_true rfl)
      · have r : stray s k = true := by rw [hst, decide_eq_true (hfo ▸ Int32.not_le.mp c39)]; exact Bool.or_true _
        refine a_iconst cx (v := 1) dX2_isStray_42 (by decide) ?_
        refine a_goto cx (tgt := 47) dX2_isStray_43 (by decide) ?_
        exact a_zret cx hq dX2_isStray_47 rfl ⟨by rw [r]; rfl, rfl⟩ (Nat.le_of_ble_eq_true rfl) (Nat.le_of_ble_eq_true rfl)
theorem sq_nI {a c : Nat} (ha : a ≤ 99) (hc : c ≤ 99) : ∃ m, m ≤ 9801 ∧ (nI a - nI c) * (nI a - nI c) = nI m ∧ (m = 0 ↔ a = c) := by
  by_cases h : c ≤ a
  · refine ⟨(a - c) * (a - c), Nat.mul_le_mul (show a - c ≤ 99 by omega) (show a - c ≤ 99 by omega), by rw [pk_sub h, pk_mul], ?_⟩
    rw [Nat.mul_eq_zero]; omega
  · refine ⟨(c - a) * (c - a), Nat.mul_le_mul (show c - a ≤ 99 by omega) (show c - a ≤ 99 by omega), ?_, ?_⟩
    · rw [show (nI a - nI c) * (nI a - nI c) = (nI c - nI a) * (nI c - nI a) by grind, pk_sub (by omega), pk_mul]
    · rw [Nat.mul_eq_zero]; omega
theorem d_zero {x1 y1 x2 y2 : Int32} (h1 : ∃ a : Nat, a ≤ 99 ∧ x1 = nI a) (h2 : ∃ a : Nat, a ≤ 99 ∧ y1 = nI a) (h3 : ∃ a : Nat, a ≤ 99 ∧ x2 = nI a) (h4 : ∃ a : Nat, a ≤ 99 ∧ y2 = nI a) : (x1 - x2) * (x1 - x2) + (y1 - y2) * (y1 - y2) = 0 ↔ x1 = x2 ∧ y1 = y2 := by
  obtain ⟨a, ha, rfl⟩ := h1
  obtain ⟨b, hb, rfl⟩ := h2
  obtain ⟨c, hc, rfl⟩ := h3
  obtain ⟨d, hd, rfl⟩ := h4
  obtain ⟨m, hm, e1, e2⟩ := sq_nI ha hc
  obtain ⟨n, hn, e3, e4⟩ := sq_nI hb hd
  rw [e1, e3, nI_add]
  constructor
  · intro h
    have h0 : m + n = 0 := nI_inj (b := 0) (by omega) (by omega) h
    rw [e2.mp (by omega), e4.mp (by omega)]
    exact ⟨rfl, rfl⟩
  · rintro ⟨h1, h2⟩
    rw [e2.mpr (nI_inj (by omega) (by omega) h1), e4.mpr (nI_inj (by omega) (by omega) h2)]
    rfl
abbrev rm_X2_hutAt : Room := { frames := 3, cells := 0, slots := 0, locals := 64 }
set_option maxHeartbeats 4000000 in
theorem f2_hutAt {lx : Launch} {g : GP} {h : AH} (htr : lx.stackTraces = false) {hb : AH} {f a ea ca b eb cb d : Nat} {ma mb : Int32} {ls lh : List Nat} {s : SF} (hF : FA g hb h f s a ea ma ca b eb mb cb d ls lh) (hn : nS s ≤ 18) (hm : nH s ≤ 6) (hP : WP s) {q : Nat} {x y : Int32} (hx : ∃ a : Nat, a ≤ 99 ∧ x = nI a) (hy : ∃ a : Nat, a ≤ 99 ∧ y = nI a) (hp : h q = some (plE x y)) : KT lx g yX2_hutAt (ws_ yX2_hutAt cX2_hutAt 3 (some .int)) rm_X2_hutAt 0 0 [.ref f, .ref q] h (isP (.int (oI (hutAt s x y))) h) (noX) := by
  refine KT.of (by decide +kernel) htr (Nat.le_of_ble_eq_true rfl) (L0 := [some (.ref f), some (.ref q), none]) rfl ?_
  intro M cx hl9 hq hin hnx
  refine a_iconst cx (v := 0) dX2_hutAt_0 (by decide) ?_
  refine a_istore_n cx dX2_hutAt_1 (Nat.le_of_ble_eq_true rfl) rfl ?_
  have loop : ∀ (j k : Nat), k ≤ nH s → nH s < k + j → hAt s x y k = none → AW g M 0 0 2 [some (.ref f), some (.ref q), some (.int (nI k))] [] h := by
    intro j
    induction j with
    | zero => intro k h1 h2; omega
    | succ j ih =>
      intro k h1 h2 hx0
      refine a_iload_n cx dX2_hutAt_2 rfl ?_
      refine a_aload_n cx dX2_hutAt_3 rfl ?_
      refine a_get cx fl_X2_18.g dX2_hutAt_4 hF.o (by exact rfl) ?_
      refine c_V cx (j2_size cx.htr hF.lb.1) (lw_V q638 q274 q275 q81 q276) dn_J2_size (RN.of rfl rfl rfl rfl) rfl hF.lb.1 rfl rfl rfl (Nat.le_of_ble_eq_true rfl) dX2_hutAt_7 (Nat.le_of_ble_eq_true rfl) (Nat.le_of_ble_eq_true rfl) (pK ?_) (fun E9 q9 h9 hx9 => hx9.elim)
      refine AW.topi (congrArg nI hF.nh) ?_
      refine a_icmp_ge cx (tgt := 39) dX2_hutAt_10 (by decide) (fun c10 => ?_) (fun c10 => ?_)
      · have d10 := le_nI c10 (by omega) (by omega)
        have e10 : k = nH s := by omega
        subst e10
        refine a_iconst cx (v := -1) dX2_hutAt_39 (by decide) ?_
        exact a_iret cx hq dX2_hutAt_40 ⟨by rw [show hutAt s x y = none from hx0]; rfl, rfl⟩ (Nat.le_of_ble_eq_true rfl) (Nat.le_of_ble_eq_true rfl)
      · have d10 := nle_nI c10 (by omega) (by omega)
        have hz := d_zero ((hP.2 k d10).1) ((hP.2 k d10).2) hx hy
        refine a_aload_n cx dX2_hutAt_13 rfl ?_
        refine a_get cx fl_X2_18.g dX2_hutAt_14 hF.o (by exact rfl) ?_
        refine a_iload_n cx dX2_hutAt_17 rfl ?_
        refine c_V cx (j2_get (i := k) cx.htr hF.lb (by rw [hF.nh]; exact d10)) (lw_V q639 q426 q427 q81 q428) dn_J2_get (RN.of rfl rfl rfl rfl) rfl hF.lb.1 rfl rfl rfl (Nat.le_of_ble_eq_true rfl) dX2_hutAt_18 (Nat.le_of_ble_eq_true rfl) (Nat.le_of_ble_eq_true rfl) (pK ?_) (fun E9 q9 h9 hx9 => hx9.elim)
        refine a_castS (r := (RX5, TX5, 2)) cx q563 dX2_hutAt_21 (hF.hu d10) rfl ?_
        refine a_aload_n cx dX2_hutAt_24 rfl ?_
        refine c_VD (na := 1) cx (f8_isAthp (w1 := 0) (u1 := 0) (w2 := 0) (u2 := 0) cx.htr (hF.hu d10) hp) (lw_meth q740) (List.mem_of_getElem? (i := 2) rfl) (List.mem_of_getElem? (i := 3) rfl) q736 q738 q107 (by decide +kernel) (RN.of rfl rfl rfl rfl) rfl (by decide +kernel) (hF.hu d10) rfl rfl rfl (Nat.le_of_ble_eq_true rfl) dX2_hutAt_25 (Nat.le_of_ble_eq_true rfl) (Nat.le_of_ble_eq_true rfl) (pK ?_)
        refine a_if_eq cx (tgt := 33) dX2_hutAt_28 (by decide) (fun c28 => ?_) (fun c28 => ?_)
        · have hno : hAt s x y (k + 1) = none := by rw [hAt, hx0]; exact if_neg (fun z => of_decide_eq_false ((bI_0 _).mp c28) (hz.mpr z))
          refine a_iincN cx dX2_hutAt_33 rfl (Nat.le_of_ble_eq_true rfl) rfl ?_
          refine a_goto cx (tgt := 2) dX2_hutAt_36 (by decide) ?_
          exact ih (k + 1) (by omega) (by omega) hno
        · have hat := hAt_up (s := s) (x := x) (y := y) (k := k) (by rw [hAt, hx0]; exact if_pos (hz.mp (of_decide_eq_true (bI_n0 c28)))) (nH s) d10
          refine a_iload_n cx dX2_hutAt_31 rfl ?_
          exact a_iret cx hq dX2_hutAt_32 ⟨by rw [show hutAt s x y = some k from hat]; rfl, rfl⟩ (Nat.le_of_ble_eq_true rfl) (Nat.le_of_ble_eq_true rfl)
  exact loop (nH s + 1) 0 (by omega) (by omega) rfl
