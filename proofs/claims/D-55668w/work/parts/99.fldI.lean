/-! THE FIELD: rounds ahead; one more hut -/
set_option maxRecDepth 100000
abbrev rm_X2_roundsToStill : Room := { frames := 24, cells := 8700, slots := 170600, locals := 560 }
set_option maxHeartbeats 4000000 in
theorem f2_roundsToStill {lx : Launch} {g : GP} {h : AH} (htr : lx.stackTraces = false) {hb : AH} {f a ea ca b eb cb d : Nat} {ma mb : Int32} {ls lh : List Nat} {s : SF} (hF : FA g hb h f s a ea ma ca b eb mb cb d ls lh) (hWF : WF s) : KT lx g yX2_roundsToStill (ws_ yX2_roundsToStill cX2_roundsToStill 4 (some .int)) rm_X2_roundsToStill 8700 170600 [.ref f] h (isP (.int (qToStill s)) h) (noX) := by
  refine KT.of (by decide +kernel) htr (Nat.le_of_ble_eq_true rfl) (L0 := [some (.ref f), none, none, none]) rfl ?_
  intro M cx hl9 hq hin hnx
  have hR1 : rm_X2_roundsToStill.cells = 8700 := rfl
  have hR2 : rm_X2_roundsToStill.slots = 170600 := rfl
  obtain ⟨hO, rfl⟩ : ∃ z, z = h := ⟨_, rfl⟩
  refine AW.hk fun hk9 => ?_
  have hS := hWF.1
  have hP := hWF.2.2
  have hn := hS.2.1
  have hm := hS.2.2.2
  refine a_aload_n cx dX2_roundsToStill_0 rfl ?_
  refine c_V cx (f2_copy cx.htr hF hn hm hS) (lw_V q292 q293 q294 q78 q295) dn_X2_copy (RN.of rfl rfl rfl rfl) rfl hF.o rfl rfl rfl (Nat.le_of_ble_eq_true rfl) dX2_roundsToStill_1 (by omega) (by omega) (fun v9 h hp9 => ?_) (fun E9 q9 h9 hx9 => hx9.elim)
  obtain ⟨f2, a2, ea2, ma2, ca2, b2, eb2, mb2, cb2, d2, ls2, lh2, rfl, hF2⟩ := hp9
  refine a_astore_n cx dX2_roundsToStill_4 (Nat.le_of_ble_eq_true rfl) rfl ?_
  refine a_iconst cx (v := 0) dX2_roundsToStill_5 (by decide) ?_
  refine a_istore_n cx dX2_roundsToStill_6 (Nat.le_of_ble_eq_true rfl) rfl ?_
  have loop : ∀ (j0 k : Nat) (h1 : AH), k ≤ 41 → 41 < k + j0 → FA g hO h1 f2 (rnds s k) a2 ea2 ma2 ca2 b2 eb2 mb2 cb2 d2 ls2 lh2 → toStill s 41 = k + toStill (rnds s k) (41 - k) → AW g M (54 + 204 * k) (2508 + 4018 * k) 7 [some (.ref f), some (.ref f2), some (.int (nI k)), none] [] h1 := by
    intro j0
    induction j0 with
    | zero => intro k h1 b1 b2; omega
    | succ j0 ih =>
      intro k h1 z1 z2 hX hts
      refine a_iload_n cx dX2_roundsToStill_7 rfl ?_
      refine a_bipush cx (v := 40) dX2_roundsToStill_8 (by decide) ?_
      refine a_icmp_gt cx (tgt := 31) dX2_roundsToStill_10 (by decide) (fun c10 => ?_) (fun c10 => ?_)
      · have d10 : 40 < k := lt_nI (a := 40) c10 (by omega) (by omega)
        have e10 : k = 41 := by omega
        have hr : toStill s 41 = k := by rw [hts, e10]; rfl
        refine a_iload_n cx dX2_roundsToStill_31 rfl ?_
        refine a_bipush cx (v := 40) dX2_roundsToStill_32 (by decide) ?_
        refine a_icmp_le cx (tgt := 41) dX2_roundsToStill_34 (by decide) (fun c34 => absurd (le_nI (b := 40) c34 (by omega) (by omega)) (by omega)) (fun c34 => ?_)
        refine a_iconst cx (v := -1) dX2_roundsToStill_37 (by decide) ?_
        refine a_goto cx (tgt := 42) dX2_roundsToStill_38 (by decide) ?_
        refine AW.hm hX.ss (fun _ => hk9) ?_
        exact a_iret cx hq dX2_roundsToStill_42 ⟨by rw [qToStill, hr, if_neg (by omega)], rfl⟩ (by omega) (by omega)
      · have d10 : k ≤ 40 := Nat.le_of_not_lt (fun z => c10 (nI_lt (a := 40) z (by omega)))
        refine a_aload_n cx dX2_roundsToStill_13 rfl ?_
        refine c_V cx (f2_isStill cx.htr hX (rnds_WF hWF k)) (lw_V q751 q289 q290 q78 q291) dn_X2_isStill (RN.of rfl rfl rfl rfl) rfl hX.o rfl rfl rfl (Nat.le_of_ble_eq_true rfl) dX2_roundsToStill_14 (by omega) (by omega) (pK ?_) (fun E9 q9 h9 hx9 => hx9.elim)
        refine a_if_ne cx (tgt := 31) dX2_roundsToStill_17 (by decide) (fun c17 => ?_) (fun c17 => ?_)
        · have hst2 := bI_n0 c17
          have hr : toStill s 41 = k := by rw [hts, show 41 - k = (41 - k - 1) + 1 by omega, toStill, if_pos hst2]; rfl
          refine a_iload_n cx dX2_roundsToStill_31 rfl ?_
          refine a_bipush cx (v := 40) dX2_roundsToStill_32 (by decide) ?_
          refine a_icmp_le cx (tgt := 41) dX2_roundsToStill_34 (by decide) (fun c34 => ?_) (fun c34 => absurd (nI_le (a := k) (b := 40) d10 (by omega)) c34)
          refine a_iload_n cx dX2_roundsToStill_41 rfl ?_
          refine AW.hm hX.ss (fun _ => hk9) ?_
          exact a_iret cx hq dX2_roundsToStill_42 ⟨by rw [qToStill, hr, if_pos d10], rfl⟩ (by omega) (by omega)
        · have hst2 : ¬ still (rnds s k) = true := by rw [(bI_0 _).mp c17]; decide
          have hts4 : toStill s 41 = (k + 1) + toStill (rnds s (k + 1)) (41 - (k + 1)) := by rw [hts, show 41 - k = (41 - (k + 1)) + 1 by omega, toStill, if_neg hst2]; show _ = _ + toStill (ground (rnds s k)) _; omega
          refine a_aload_n cx dX2_roundsToStill_20 rfl ?_
          refine c_V cx (f2_makeRound cx.htr hX (rnds_WF hWF k)) (lw_V q630 q632 qs5 q78 q633) dn_X2_makeRound (RN.of rfl rfl rfl rfl) rfl hX.o rfl rfl rfl (Nat.le_of_ble_eq_true rfl) dX2_roundsToStill_21 (by omega) (by omega) (fun v9 h hp9 => ?_) (fun E9 q9 h9 hx9 => hx9.elim)
          obtain ⟨rfl, hX4⟩ := hp9
          refine a_istore_n cx dX2_roundsToStill_24 (Nat.le_of_ble_eq_true rfl) rfl ?_
          refine a_iincN cx dX2_roundsToStill_25 rfl (Nat.le_of_ble_eq_true rfl) rfl ?_
          refine a_goto cx (tgt := 7) dX2_roundsToStill_28 (by decide) ?_
          refine AW.widen ?_ ?_ (AW.loc ?_ (ih (k + 1) _ (by omega) (by omega) hX4 hts4))
          · omega
          · omega
          · exact ⟨rfl, rfl, rfl, trivial⟩
  exact AW.widen (by omega) (by omega) (AW.loc (show lle [some (.ref f), some (.ref f2), some (.int (nI 0)), none] _ from ⟨rfl, rfl, rfl, trivial⟩) (loop 42 0 _ (Nat.zero_le _) (by omega) hF2 (Nat.zero_add _).symm))
abbrev rm_X2_spreadAfter : Room := { frames := 24, cells := 1600, slots := 17700, locals := 560 }
set_option maxHeartbeats 4000000 in
theorem f2_spreadAfter {lx : Launch} {g : GP} {h : AH} (htr : lx.stackTraces = false) {hb : AH} {f a ea ca b eb cb d : Nat} {ma mb : Int32} {ls lh : List Nat} {s : SF} (hF : FA g hb h f s a ea ma ca b eb mb cb d ls lh) (hWF : WF s) {m : Nat} (hm20 : m ≤ 20) : KT lx g yX2_spreadAfter (ws_ yX2_spreadAfter cX2_spreadAfter 5 (some .int)) rm_X2_spreadAfter 1600 17700 [.ref f, .int (nI m)] h (fun v h' => v = some (.int (sprs (rnds s m) (nH s))) ∧ h' = h ∧ ¬ nH s = 0) (xN "java/util/NoSuchElementException" (nH s = 0) h) := by
  refine KT.of (by decide +kernel) htr (Nat.le_of_ble_eq_true rfl) (L0 := [some (.ref f), some (.int (nI m)), none, none, none]) rfl ?_
  intro M cx hl9 hq hin hnx
  have hR1 : rm_X2_spreadAfter.cells = 1600 := rfl
  have hR2 : rm_X2_spreadAfter.slots = 17700 := rfl
  obtain ⟨hO, rfl⟩ : ∃ z, z = h := ⟨_, rfl⟩
  refine AW.hk fun hk9 => ?_
  have hS := hWF.1
  have hP := hWF.2.2
  have hn := hS.2.1
  have hm := hS.2.2.2
  refine a_aload_n cx dX2_spreadAfter_0 rfl ?_
  refine a_get cx fl_X2_18.g dX2_spreadAfter_1 hF.o (by exact rfl) ?_
  refine c_V cx (j2_isEmpty cx.htr hF.lb.1 (by have := hF.nh; omega)) (lw_V q626 q627 q628 q81 q629) dn_J2_isEmpty (RN.of rfl rfl rfl rfl) rfl hF.lb.1 rfl rfl rfl (Nat.le_of_ble_eq_true rfl) dX2_spreadAfter_4 (by omega) (by omega) (pK ?_) (fun E9 q9 h9 hx9 => hx9.elim)
  refine AW.topi (show _ = bI (nH s == 0) by rw [hF.nh]) ?_
  refine a_if_ne cx (tgt := 14) dX2_spreadAfter_7 (by decide) (fun c7 => ?_) (fun c7 => ?_)
  · have e0 : nH s = 0 := beq_iff_eq.mp (bI_n0 c7)
    refine a_iconst cx (v := 0) dX2_spreadAfter_14 (by decide) ?_
    refine c_SN cx (f1_checkElement (x := 0) cx.htr) (lw_meth q354) q77 q1528 q353 dn_X1_checkElement (RN.of rfl rfl rfl rfl) rfl rfl (Nat.le_of_ble_eq_true rfl) dX2_spreadAfter_15 (by omega) (by omega) (fun v9 h hp9 => ?_) (fun E9 q9 h9 hx9 => AX.out cx hq hnx ⟨hx9.1, hx9.2.1, e0⟩ (by omega) (by omega))
    obtain ⟨rfl, e15, ck15⟩ := hp9
    exact absurd rfl ck15
  · have e0 : ¬ nH s = 0 := fun z => by have := (bI_0 _).mp c7; rw [z] at this; cases this
    refine a_iconst cx (v := 1) dX2_spreadAfter_10 (by decide) ?_
    refine a_goto cx (tgt := 15) dX2_spreadAfter_11 (by decide) ?_
    refine c_SN cx (f1_checkElementk (x := 1) cx.htr (by decide)) (lw_meth q354) q77 q1528 q353 dn_X1_checkElement (RN.of rfl rfl rfl rfl) rfl rfl (Nat.le_of_ble_eq_true rfl) dX2_spreadAfter_15 (by omega) (by omega) (fun v9 h hp9 => ?_) (fun E9 q9 h9 hx9 => hx9.elim)
    obtain ⟨rfl, e15⟩ := hp9
    rw [e15]
    refine a_aload_n cx dX2_spreadAfter_18 rfl ?_
    refine c_V cx (f2_copy cx.htr hF hn hm hS) (lw_V q292 q293 q294 q78 q295) dn_X2_copy (RN.of rfl rfl rfl rfl) rfl hF.o rfl rfl rfl (Nat.le_of_ble_eq_true rfl) dX2_spreadAfter_19 (by omega) (by omega) (fun v9 h hp9 => ?_) (fun E9 q9 h9 hx9 => hx9.elim)
    obtain ⟨f2, a2, ea2, ma2, ca2, b2, eb2, mb2, cb2, d2, ls2, lh2, rfl, hF2⟩ := hp9
    refine a_astore_n cx dX2_spreadAfter_22 (Nat.le_of_ble_eq_true rfl) rfl ?_
    refine a_iconst cx (v := 0) dX2_spreadAfter_23 (by decide) ?_
    refine a_istore_n cx dX2_spreadAfter_24 (Nat.le_of_ble_eq_true rfl) rfl ?_
    have loop : ∀ (j0 k : Nat) (h1 : AH), k ≤ m → m < k + j0 → FA g hO h1 f2 (rnds s k) a2 ea2 ma2 ca2 b2 eb2 mb2 cb2 d2 ls2 lh2 → AW g M (60 + 75 * k) (2520 + 755 * k) 25 [some (.ref f), some (.int (nI m)), some (.ref f2), some (.int (nI k)), none] [] h1 := by
      intro j0
      induction j0 with
      | zero => intro k h1 b1 b2; omega
      | succ j0 ih =>
        intro k h1 z1 z2 hX
        refine a_iload_n cx dX2_spreadAfter_25 rfl ?_
        refine a_iload_n cx dX2_spreadAfter_26 rfl ?_
        refine a_icmp_ge cx (tgt := 42) dX2_spreadAfter_27 (by decide) (fun c27 => ?_) (fun c27 => ?_)
        · have d27 : k = m := by have := le_nI c27 (by omega) (by omega); omega
          subst d27
          have eS := rnds_S (s := s) k
          have eH := rnds_H (s := s) k
          refine a_aload_n cx dX2_spreadAfter_42 rfl ?_
          refine c_V cx (f2_spread cx.htr hX (by omega) (by omega)) (lw_V q790 q761 q762 q78 q763) dn_X2_spread (RN.of rfl rfl rfl rfl) rfl hX.o rfl rfl rfl (Nat.le_of_ble_eq_true rfl) dX2_spreadAfter_43 (by omega) (by omega) (pK ?_) (fun E9 q9 h9 hx9 => hx9.elim)
          rw [eH]
          refine AW.hm hX.ss (fun _ => hk9) ?_
          exact a_iret cx hq dX2_spreadAfter_46 ⟨rfl, rfl, e0⟩ (by omega) (by omega)
        · have d27 := nle_nI c27 (by omega) (by omega)
          refine a_aload_n cx dX2_spreadAfter_30 rfl ?_
          refine c_V cx (f2_makeRound cx.htr hX (rnds_WF hWF k)) (lw_V q630 q632 qs5 q78 q633) dn_X2_makeRound (RN.of rfl rfl rfl rfl) rfl hX.o rfl rfl rfl (Nat.le_of_ble_eq_true rfl) dX2_spreadAfter_31 (by omega) (by omega) (fun v9 h hp9 => ?_) (fun E9 q9 h9 hx9 => hx9.elim)
          obtain ⟨rfl, hX4⟩ := hp9
          refine a_istore cx dX2_spreadAfter_34 (Nat.le_of_ble_eq_true rfl) rfl ?_
          refine a_iincN cx dX2_spreadAfter_36 rfl (Nat.le_of_ble_eq_true rfl) rfl ?_
          refine a_goto cx (tgt := 25) dX2_spreadAfter_39 (by decide) ?_
          refine AW.widen ?_ ?_ (AW.loc ?_ (ih (k + 1) _ (by omega) (by omega) hX4))
          · omega
          · omega
          · exact ⟨rfl, rfl, rfl, rfl, trivial⟩
    exact AW.widen (by omega) (by omega) (AW.loc (show lle [some (.ref f), some (.int (nI m)), some (.ref f2), some (.int (nI 0)), none] _ from ⟨rfl, rfl, rfl, rfl, trivial⟩) (loop (m + 1) 0 _ (Nat.zero_le _) (by omega) hF2))
def dG (X Y : Nat → Int32) (x y : Int32) (j : Nat) : Int32 := (x - X j) * (x - X j) + (y - Y j) * (y - Y j)
def nrG (X Y : Nat → Int32) (x y : Int32) : Nat → Option Nat
  | 0 => none
  | k + 1 => match nrG X Y x y k with
    | none => some k
    | some b => if dG X Y x y k < dG X Y x y b then some k else some b
theorem nrG_lt {X Y : Nat → Int32} {x y : Int32} : ∀ {k b : Nat}, nrG X Y x y k = some b → b < k := by
  intro k
  induction k with
  | zero => intro b h; cases h
  | succ k ih =>
    intro b h
    rw [nrG] at h
    cases hn : nrG X Y x y k with
    | none => rw [hn] at h; cases h; omega
    | some c =>
      rw [hn] at h
      have := ih hn
      dsimp only at h
      split at h <;> cases h <;> omega
theorem nrG_nr {s : SF} {X Y : Nat → Int32} {x y : Int32} {n : Nat} (hX : ∀ j, j < n → X j = s (81 + j)) (hY : ∀ j, j < n → Y j = s (87 + j)) : ∀ k, k ≤ n → nrG X Y x y k = nr s x y k := by
  intro k
  induction k with
  | zero => intro _; rfl
  | succ k ih =>
    intro hk
    rw [nrG, nr, ih (by omega)]
    cases hn : nr s x y k with
    | none => rfl
    | some b =>
      have hb := nr_lt hn
      dsimp only
      rw [show dG X Y x y k = fTo s x y k by unfold dG fTo; rw [hX k (by omega), hY k (by omega)], show dG X Y x y b = fTo s x y b by unfold dG fTo; rw [hX b (by omega), hY b (by omega)]]
abbrev rm_X2_nearestG : Room := { frames := 3, cells := 0, slots := 0, locals := 64 }
set_option maxHeartbeats 4000000 in
theorem f2_nearestG {lx : Launch} {g : GP} {h : AH} (htr : lx.stackTraces = false) {f b eb cb q : Nat} {mb : Int32} {lh : List Nat} {w1 w3 w4 w5 w6 w7 : Value} {X Y : Nat → Int32} {x y w u0 : Int32} (ho : h f = some (eO 1 [w1, .ref b, w3, w4, w5, w6, w7])) (hl : AL g h b eb mb cb lh) (hX : ∀ j, j < lh.length → h (lh.getD j 0) = some (huE (X j) (Y j))) (h7 : lh.length ≤ 7) (hp : h q = some (shE x y w u0)) : KT lx g yX2_nearest (ws_ yX2_nearest cX2_nearest 5 (some .int)) rm_X2_nearestG 0 0 [.ref f, .ref q] h (isP (.int (oI (nrG X Y x y lh.length))) h) (noX) := by
  refine KT.of (by decide +kernel) htr (Nat.le_of_ble_eq_true rfl) (L0 := [some (.ref f), some (.ref q), none, none, none]) rfl ?_
  intro M cx hl9 hq hin hnx
  refine a_iconst cx (v := -1) dX2_nearest_0 (by decide) ?_
  refine a_istore_n cx dX2_nearest_1 (Nat.le_of_ble_eq_true rfl) rfl ?_
  refine a_iconst cx (v := 0) dX2_nearest_2 (by decide) ?_
  refine a_istore_n cx dX2_nearest_3 (Nat.le_of_ble_eq_true rfl) rfl ?_
  have loop : ∀ (j k : Nat), k ≤ lh.length → lh.length < k + j → AW g M 0 0 4 [some (.ref f), some (.ref q), some (.int (oI (nrG X Y x y k))), some (.int (nI k)), none] [] h := by
    intro j
    induction j with
    | zero => intro k h1 h2; omega
    | succ j ih =>
      intro k h1 h2
      refine a_iload_n cx dX2_nearest_4 rfl ?_
      refine a_aload_n cx dX2_nearest_5 rfl ?_
      refine a_get cx fl_X2_18.g dX2_nearest_6 ho (by exact rfl) ?_
      refine c_V cx (j2_size cx.htr hl.1) (lw_V q638 q274 q275 q81 q276) dn_J2_size (RN.of rfl rfl rfl rfl) rfl hl.1 rfl rfl rfl (Nat.le_of_ble_eq_true rfl) dX2_nearest_9 (Nat.le_of_ble_eq_true rfl) (Nat.le_of_ble_eq_true rfl) (pK ?_) (fun E9 q9 h9 hx9 => hx9.elim)
      refine a_icmp_ge cx (tgt := 81) dX2_nearest_12 (by decide) (fun c12 => ?_) (fun c12 => ?_)
      · have d12 := le_nI c12 (by omega) (by omega)
        have e12 : k = lh.length := by omega
        subst e12
        refine a_iload_n cx dX2_nearest_81 rfl ?_
        exact a_iret cx hq dX2_nearest_82 ⟨rfl, rfl⟩ (Nat.le_of_ble_eq_true rfl) (Nat.le_of_ble_eq_true rfl)
      · have d12 := nle_nI c12 (by omega) (by omega)
        rcases hnr : nrG X Y x y k with _ | b
        · skip
          refine a_iload_n cx dX2_nearest_15 rfl ?_
          refine a_iconst cx (v := -1) dX2_nearest_16 (by decide) ?_
          refine a_icmp_eq cx (tgt := 57) dX2_nearest_17 (by decide) (fun c17 => ?_) (fun c17 => absurd rfl c17)
          refine a_iconst cx (v := 1) dX2_nearest_57 (by decide) ?_
          refine a_goto cx (tgt := 62) dX2_nearest_58 (by decide) ?_
          refine a_istore cx dX2_nearest_62 (Nat.le_of_ble_eq_true rfl) rfl ?_
          refine a_iload cx dX2_nearest_64 rfl ?_
          refine a_if_eq cx (tgt := 73) dX2_nearest_66 (by decide) (fun c66 => absurd c66 (by decide)) (fun c66 => ?_)
          refine a_iload_n cx dX2_nearest_69 rfl ?_
          refine a_goto cx (tgt := 74) dX2_nearest_70 (by decide) ?_
          refine a_istore_n cx dX2_nearest_74 (Nat.le_of_ble_eq_true rfl) rfl ?_
          refine a_iincN cx dX2_nearest_75 rfl (Nat.le_of_ble_eq_true rfl) rfl ?_
          refine a_goto cx (tgt := 4) dX2_nearest_78 (by decide) ?_
          have hgo := ih (k + 1) (by omega) (by omega)
          rw [show nrG X Y x y (k + 1) = some k from by rw [nrG, hnr]] at hgo
          refine AW.loc ?_ hgo
          exact ⟨rfl, rfl, rfl, rfl, trivial⟩
        · have hb2 := nrG_lt hnr
          refine a_iload_n cx dX2_nearest_15 rfl ?_
          refine a_iconst cx (v := -1) dX2_nearest_16 (by decide) ?_
          refine a_icmp_eq cx (tgt := 57) dX2_nearest_17 (by decide) (fun c17 => absurd c17 (oI_s (by omega))) (fun c17 => ?_)
          refine a_aload_n cx dX2_nearest_20 rfl ?_
          refine a_aload_n cx dX2_nearest_21 rfl ?_
          refine a_get cx fl_X2_18.g dX2_nearest_22 ho (by exact rfl) ?_
          refine a_iload_n cx dX2_nearest_25 rfl ?_
          refine c_V cx (j2_get (i := k) cx.htr hl d12) (lw_V q639 q426 q427 q81 q428) dn_J2_get (RN.of rfl rfl rfl rfl) rfl hl.1 rfl rfl rfl (Nat.le_of_ble_eq_true rfl) dX2_nearest_26 (Nat.le_of_ble_eq_true rfl) (Nat.le_of_ble_eq_true rfl) (pK ?_) (fun E9 q9 h9 hx9 => hx9.elim)
          refine a_castI (RX5, TX5, 2) cx q640 q577 dX2_nearest_29 (hX k d12) rfl ?_
          refine c_FD (C := "FlockHuts$Sheep") cx (f8_distancesh (w2 := 0) (u2 := 0) cx.htr hp (hX k d12)) (lw_meth q648) q642 q644 q646 q589 q107 (by decide +kernel) (RN.of rfl rfl rfl rfl) rfl hp rfl rfl rfl (Nat.le_of_ble_eq_true rfl) dX2_nearest_32 (Nat.le_of_ble_eq_true rfl) (Nat.le_of_ble_eq_true rfl) (pK ?_)
          refine AW.topi (show _ = dG X Y x y k from rfl) ?_
          refine a_aload_n cx dX2_nearest_37 rfl ?_
          refine a_aload_n cx dX2_nearest_38 rfl ?_
          refine a_get cx fl_X2_18.g dX2_nearest_39 ho (by exact rfl) ?_
          refine a_iload_n cx dX2_nearest_42 rfl ?_
          refine c_V cx (j2_get (i := b) cx.htr hl (by omega)) (lw_V q639 q426 q427 q81 q428) dn_J2_get (RN.of rfl rfl rfl rfl) rfl hl.1 rfl rfl rfl (Nat.le_of_ble_eq_true rfl) dX2_nearest_43 (Nat.le_of_ble_eq_true rfl) (Nat.le_of_ble_eq_true rfl) (pK ?_) (fun E9 q9 h9 hx9 => hx9.elim)
          refine a_castI (RX5, TX5, 2) cx q640 q577 dX2_nearest_46 (hX b (by omega)) rfl ?_
          refine c_FD (C := "FlockHuts$Sheep") cx (f8_distancesh (w2 := 0) (u2 := 0) cx.htr hp (hX b (by omega))) (lw_meth q648) q642 q644 q646 q589 q107 (by decide +kernel) (RN.of rfl rfl rfl rfl) rfl hp rfl rfl rfl (Nat.le_of_ble_eq_true rfl) dX2_nearest_49 (Nat.le_of_ble_eq_true rfl) (Nat.le_of_ble_eq_true rfl) (pK ?_)
          refine AW.topi (show _ = dG X Y x y b from rfl) ?_
          refine a_icmp_ge cx (tgt := 61) dX2_nearest_54 (by decide) (fun c54 => ?_) (fun c54 => ?_)
          · have d54 : ¬ dG X Y x y k < dG X Y x y b := Int32.not_lt.mpr c54
            refine a_iconst cx (v := 0) dX2_nearest_61 (by decide) ?_
            refine a_istore cx dX2_nearest_62 (Nat.le_of_ble_eq_true rfl) rfl ?_
            refine a_iload cx dX2_nearest_64 rfl ?_
            refine a_if_eq cx (tgt := 73) dX2_nearest_66 (by decide) (fun c66 => ?_) (fun c66 => absurd rfl c66)
            refine a_iload_n cx dX2_nearest_73 rfl ?_
            refine a_istore_n cx dX2_nearest_74 (Nat.le_of_ble_eq_true rfl) rfl ?_
            refine a_iincN cx dX2_nearest_75 rfl (Nat.le_of_ble_eq_true rfl) rfl ?_
            refine a_goto cx (tgt := 4) dX2_nearest_78 (by decide) ?_
            have hgo := ih (k + 1) (by omega) (by omega)
            rw [show nrG X Y x y (k + 1) = some b from by rw [nrG, hnr]; exact if_neg d54] at hgo
            refine AW.loc ?_ hgo
            exact ⟨rfl, rfl, rfl, rfl, trivial⟩
          · have d54 : dG X Y x y k < dG X Y x y b := Int32.not_le.mp c54
            refine a_iconst cx (v := 1) dX2_nearest_57 (by decide) ?_
            refine a_goto cx (tgt := 62) dX2_nearest_58 (by decide) ?_
            refine a_istore cx dX2_nearest_62 (Nat.le_of_ble_eq_true rfl) rfl ?_
            refine a_iload cx dX2_nearest_64 rfl ?_
            refine a_if_eq cx (tgt := 73) dX2_nearest_66 (by decide) (fun c66 => absurd c66 (by decide)) (fun c66 => ?_)
            refine a_iload_n cx dX2_nearest_69 rfl ?_
            refine a_goto cx (tgt := 74) dX2_nearest_70 (by decide) ?_
            refine a_istore_n cx dX2_nearest_74 (Nat.le_of_ble_eq_true rfl) rfl ?_
            refine a_iincN cx dX2_nearest_75 rfl (Nat.le_of_ble_eq_true rfl) rfl ?_
            refine a_goto cx (tgt := 4) dX2_nearest_78 (by decide) ?_
            have hgo := ih (k + 1) (by omega) (by omega)
            rw [show nrG X Y x y (k + 1) = some k from by rw [nrG, hnr]; exact if_pos d54] at hgo
            refine AW.loc ?_ hgo
            exact ⟨rfl, rfl, rfl, rfl, trivial⟩
  exact loop (lh.length + 1) 0 (by omega) (by omega)
