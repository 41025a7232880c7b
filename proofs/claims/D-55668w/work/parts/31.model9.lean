/-! THE MODEL: questions, 3; going back -/
set_option maxRecDepth 100000
/-- thought and forgotten -/
theorem RM_think {S : ST} {σ τ : MS} {s : SF} (h : RM S σ) (hx : SX (ma (mv σ 0 0) 5 ((mv σ 0 0).2 1)) τ s scr) : (ma τ 1 (τ.2 5)).1 0 = 0 ∧ RM S (ma τ 1 (τ.2 5)) := by
  refine ⟨(congrFun hx.1 0).trans (mv_at σ 0 0), ?_⟩
  have h5 : τ.2 5 = S.row := ((hx.2.2 5 (by decide) (by decide)).trans (ma_at _ _ _)).trans h.row
  have q := (((h.v (k := 0) (x := 0) (Or.inl rfl)).a (i := 5) (f := (mv σ 0 0).2 1) (by decide)).sx hx (by decide)).s (f := τ.2 5)
  rw [h5] at q ⊢
  exact q
def qRef (S : ST) (u : Int32) : Ans := (if S.why = 0 then 1 else 0, if u = 0 then S.why else S.detail)
def qAcc (S : ST) (u : Int32) : Ans :=
  if u = 0 then (0, nI (nS S.row)) else if u = 1 then (0, nI (nH S.row)) else if u = 2 then (0, allW S.row (nS S.row)) else if u = 3 then (0, nI (emp S.row (nH S.row))) else if u = 4 then (0, nI (cnt S.row (-1) (nS S.row)))
  else if u = 5 then (0, S.row 2) else if u = 6 then (0, S.row 3) else if u = 7 then (0, S.row 4) else if u = 8 then (0, S.row 5) else if u = 9 then (0, nI S.text.length) else if u = 10 then (0, nI S.hist.length) else (1, 0)
def qPos (o : Option Nat) : Ans := match o with
  | none => (1, 0)
  | some p => (0, nI p)
theorem wRow_self {S : ST} {s : SF} (h : s = S.row) : S.wRow s = S := by subst h; rfl
abbrev rm_X3_roundsToStill : Room := { frames := 6, cells := 0, slots := 0, locals := 135 }
set_option maxHeartbeats 4000000 in
theorem k3_roundsToStill {l : Launch} {g : GP} {ad : Nat → Nat} {σ : MS} (htr : l.stackTraces = false) {S : ST}  (hR : RM S σ) (hF : WF (σ.2 1)) : MK l g ad yX3_roundsToStill cX3_roundsToStill 3 (some .int) rm_X3_roundsToStill σ [] (fun v σ' => QP S ((0, qToStill (σ.2 1))) v σ') := by
  refine MK.of (by decide +kernel) htr (Nat.le_of_ble_eq_true rfl) (L0 := [some (.ref (ad 0)), none, none]) rfl ?_
  intro M h0 h cx _ hq hm
  obtain ⟨hw1, hw2, hw3, hw4⟩ := id hF.1
  have hw := hF.1
  have ho := hF.2.1
  refine a_aload_n cx dX3_roundsToStill_0 rfl ?_
  refine a_iconst cx (v := 0) dX3_roundsToStill_1 (by decide) ?_
  refine m_put cx (i := 0) fl_X3_53 dX3_roundsToStill_2 hm rfl rfl rfl (fun h hm => ?_)
  refine a_aload_n cx dX3_roundsToStill_5 rfl ?_
  refine m_callv cx (k3_thinks cx.htr) (lw_V q2237 q2239 qs59 q87 q2240) dn_X3_thinks (RN.of rfl rfl rfl rfl) rfl hm rfl rfl (Nat.le_of_ble_eq_true rfl) dX3_roundsToStill_6 (Nat.zero_le _) (Nat.zero_le _) (fun h hm => ?_)
  refine a_iconst cx (v := 0) dX3_roundsToStill_9 (by decide) ?_
  refine a_istore_n cx dX3_roundsToStill_10 (Nat.le_of_ble_eq_true rfl) rfl ?_
  have loop : ∀ (j k : Nat) (τ : MS) (h : AH), k ≤ 41 → 41 < k + j → k + toStill (rnds (σ.2 1) k) (41 - k) = toStill (σ.2 1) 41 → MSt g ad h0 τ h → SX (ma (mv σ 0 0) 5 ((mv σ 0 0).2 1)) τ (rnds (σ.2 1) k) scr → AW g M 0 0 11 [some (.ref (ad 0)), some (.int (nI k)), none] [] h := by
    intro j
    induction j with
    | zero => intro k τ h h1 h2; omega
    | succ j ih =>
      intro k τ h h0 h1 h2 hm hx
      refine a_iload_n cx dX3_roundsToStill_11 rfl ?_
      refine a_bipush cx (v := 40) dX3_roundsToStill_12 (by decide) ?_
      refine a_icmp_gt cx (tgt := 35) dX3_roundsToStill_14 (by decide) (fun c14 => ?_) (fun c14 => ?_)
      · have d14 : 40 < k := (nI_ltI (a := 40) (by omega) (by omega)).mp c14
        have e56 : k = toStill (σ.2 1) 41 := by
          have q9 : toStill (rnds (σ.2 1) k) (41 - k) = 0 := by rw [show 41 - k = 0 by omega]; rfl
          omega
        refine a_aload_n cx dX3_roundsToStill_35 rfl ?_
        refine m_callv cx (k3_forgets cx.htr) (lw_V q2241 q2243 qs60 q87 q2244) dn_X3_forgets (RN.of rfl rfl rfl rfl) rfl hm rfl rfl (Nat.le_of_ble_eq_true rfl) dX3_roundsToStill_36 (Nat.zero_le _) (Nat.zero_le _) (fun h hm => ?_)
        refine a_iload_n cx dX3_roundsToStill_39 rfl ?_
        refine a_bipush cx (v := 40) dX3_roundsToStill_40 (by decide) ?_
        refine a_icmp_le cx (tgt := 49) dX3_roundsToStill_42 (by decide) (fun c42 => ?_) (fun c42 => ?_)
        · have d42 : k ≤ 40 := le_nI (b := 40) c42 (by omega) (by omega)
          have eA : qToStill (σ.2 1) = nI k := by unfold qToStill; rw [if_pos (by omega), ← e56]
          refine a_iload_n cx dX3_roundsToStill_49 rfl ?_
          exact a_iret cx hq dX3_roundsToStill_50 ⟨_, ⟨by rw [eA], by exact RM_think hR hx⟩, hm⟩ (Nat.zero_le _) (Nat.zero_le _)
        · have d42 : 40 < k := nle_nI (b := 40) c42 (by omega) (by omega)
          have eA : qToStill (σ.2 1) = -1 := by unfold qToStill; rw [if_neg (by omega)]
          refine a_iconst cx (v := -1) dX3_roundsToStill_45 (by decide) ?_
          refine a_goto cx (tgt := 50) dX3_roundsToStill_46 (by decide) ?_
          exact a_iret cx hq dX3_roundsToStill_50 ⟨_, ⟨by rw [eA], by exact RM_think hR hx⟩, hm⟩ (Nat.zero_le _) (Nat.zero_le _)
      · have d14 : k ≤ 40 := Nat.le_of_not_lt (fun q => c14 ((nI_ltI (a := 40) (by omega) (by omega)).mpr q))
        obtain ⟨i, hi⟩ : ∃ i, 41 - k = i + 1 := ⟨41 - k - 1, by omega⟩
        rw [hi, toStill] at h2
        refine a_aload_n cx dX3_roundsToStill_17 rfl ?_
        refine m_call cx (k3_isStillNow cx.htr (by rw [hx.row]; exact rnds_WF hF k)) (lw_V q2225 q2227 qs58 q87 q2228) dn_X3_isStillNow (RN.of rfl rfl rfl rfl) rfl hm rfl rfl (Nat.le_of_ble_eq_true rfl) dX3_roundsToStill_18 (Nat.zero_le _) (Nat.zero_le _) (fun v9 υ h hp hm => ?_)
        obtain ⟨rfl, hy⟩ := hp
        rw [hx.row] at hy ⊢
        replace hx := hx.t hy
        refine a_if_ne cx (tgt := 35) dX3_roundsToStill_21 (by decide) (fun c21 => ?_) (fun c21 => ?_)
        · have e56 : k = toStill (σ.2 1) 41 := by
            rw [if_pos (bI_n0 c21)] at h2
            omega
          refine a_aload_n cx dX3_roundsToStill_35 rfl ?_
          refine m_callv cx (k3_forgets cx.htr) (lw_V q2241 q2243 qs60 q87 q2244) dn_X3_forgets (RN.of rfl rfl rfl rfl) rfl hm rfl rfl (Nat.le_of_ble_eq_true rfl) dX3_roundsToStill_36 (Nat.zero_le _) (Nat.zero_le _) (fun h hm => ?_)
          refine a_iload_n cx dX3_roundsToStill_39 rfl ?_
          refine a_bipush cx (v := 40) dX3_roundsToStill_40 (by decide) ?_
          refine a_icmp_le cx (tgt := 49) dX3_roundsToStill_42 (by decide) (fun c42 => ?_) (fun c42 => ?_)
          · have d42 : k ≤ 40 := le_nI (b := 40) c42 (by omega) (by omega)
            have eA : qToStill (σ.2 1) = nI k := by unfold qToStill; rw [if_pos (by omega), ← e56]
            refine a_iload_n cx dX3_roundsToStill_49 rfl ?_
            exact a_iret cx hq dX3_roundsToStill_50 ⟨_, ⟨by rw [eA], by exact RM_think hR hx⟩, hm⟩ (Nat.zero_le _) (Nat.zero_le _)
          · have d42 : 40 < k := nle_nI (b := 40) c42 (by omega) (by omega)
            have eA : qToStill (σ.2 1) = -1 := by unfold qToStill; rw [if_neg (by omega)]
            refine a_iconst cx (v := -1) dX3_roundsToStill_45 (by decide) ?_
            refine a_goto cx (tgt := 50) dX3_roundsToStill_46 (by decide) ?_
            exact a_iret cx hq dX3_roundsToStill_50 ⟨_, ⟨by rw [eA], by exact RM_think hR hx⟩, hm⟩ (Nat.zero_le _) (Nat.zero_le _)
        · have hs9 := (bI_0 _).mp c21
          rw [if_neg (by rw [hs9]; decide)] at h2
          refine a_aload_n cx dX3_roundsToStill_24 rfl ?_
          refine m_call cx (k3_goesRound cx.htr (by rw [hx.row]; exact rnds_WF hF k)) (lw_V q2201 q2203 qs53 q87 q2204) dn_X3_goesRound (RN.of rfl rfl rfl rfl) rfl hm rfl rfl (Nat.le_of_ble_eq_true rfl) dX3_roundsToStill_25 (Nat.zero_le _) (Nat.zero_le _) (fun v9 ζ h hp hm => ?_)
          obtain ⟨rfl, hz⟩ := hp
          rw [hx.row] at hz
          replace hx := hx.t hz.w
          refine a_istore_n cx dX3_roundsToStill_28 (Nat.le_of_ble_eq_true rfl) rfl ?_
          refine a_iincN cx dX3_roundsToStill_29 rfl (Nat.le_of_ble_eq_true rfl) rfl ?_
          refine a_goto cx (tgt := 11) dX3_roundsToStill_32 (by decide) ?_
          exact (ih (k + 1) _ h (by omega) (by omega) (by rw [show rnds (σ.2 1) (k + 1) = ground (rnds (σ.2 1) k) from rfl, show 41 - (k + 1) = i by omega]; omega) hm hx).loc (by exact ⟨rfl, rfl, trivial⟩)
  exact loop 42 0 (ma (mv σ 0 0) 5 ((mv σ 0 0).2 1)) h (by omega) (by omega) (by rw [Nat.zero_add]; rfl) hm (SX.rf _)
abbrev rm_X3_spreadAfter : Room := { frames := 5, cells := 0, slots := 0, locals := 113 }
set_option maxHeartbeats 4000000 in
theorem k3_spreadAfter {l : Launch} {g : GP} {ad : Nat → Nat} {σ : MS} (htr : l.stackTraces = false) {S : ST} {u : Int32} (hR : RM S σ) (hF : WF (σ.2 1)) : MK l g ad yX3_spreadAfter cX3_spreadAfter 4 (some .int) rm_X3_spreadAfter σ [.int u] (fun v σ' => QP S (qAfter (σ.2 1) u) v σ') := by
  refine MK.of (by decide +kernel) htr (Nat.le_of_ble_eq_true rfl) (L0 := [some (.ref (ad 0)), some (.int u), none, none]) rfl ?_
  intro M h0 h cx _ hq hm
  obtain ⟨hw1, hw2, hw3, hw4⟩ := id hF.1
  have hw := hF.1
  have ho := hF.2.1
  refine a_aload_n cx dX3_spreadAfter_0 rfl ?_
  refine a_iload_n cx dX3_spreadAfter_1 rfl ?_
  refine a_iconst cx (v := 0) dX3_spreadAfter_2 (by decide) ?_
  refine a_bipush cx (v := 20) dX3_spreadAfter_3 (by decide) ?_
  refine s_calli cx (k3_in cx.htr) (lw_S q2067 q2068 q87 q2069) dn_X3_in (RN.of rfl rfl rfl rfl) rfl rfl (Nat.le_of_ble_eq_true rfl) dX3_spreadAfter_5 (Nat.zero_le _) (Nat.zero_le _) ?_
  refine a_if_ne cx (tgt := 15) dX3_spreadAfter_8 (by decide) (fun c8 => ?_) (fun c8 => ?_)
  · have p0 := bI_n0 c8
    obtain ⟨m, hd, rfl⟩ := nI_of2 (M := 20) (n := 20) (by decide) (show ¬ u < 0 from Int32.not_lt.mpr ((inR_iff _ _ _).mp p0).1) ((inR_iff _ _ _).mp p0).2
    refine a_aload_n cx dX3_spreadAfter_15 rfl ?_
    refine a_get cx fl_X3_7.g dX3_spreadAfter_16 hm.o rfl ?_
    refine a_iconst cx (v := 1) dX3_spreadAfter_19 (by decide) ?_
    refine a_iald cx dX3_spreadAfter_20 hm.a1 (show (1 : Int32) = nI 1 from rfl) (by omega) (by decide) ?_
    refine AW.topi hw3 ?_
    refine a_if_ne cx (tgt := 28) dX3_spreadAfter_21 (by decide) (fun c21 => ?_) (fun c21 => ?_)
    · have hn : nH (σ.2 1) ≠ 0 := fun q => c21 (by rw [q]; rfl)
      have eA : qAfter (σ.2 1) (nI m) = (0, sprs (rnds (σ.2 1) m) (nH (σ.2 1))) := by unfold qAfter; rw [if_pos p0, if_neg hn, oN_nI (by omega)]
      refine a_iconst cx (v := 0) dX3_spreadAfter_28 (by decide) ?_
      refine m_put cx (i := 0) fl_X3_53 dX3_spreadAfter_29 hm rfl rfl rfl (fun h hm => ?_)
      refine a_aload_n cx dX3_spreadAfter_32 rfl ?_
      refine a_get cx fl_X3_53.g dX3_spreadAfter_33 hm.o rfl ?_
      refine a_if_le cx (tgt := 41) dX3_spreadAfter_36 (by decide) (fun c36 => ?_) (fun c36 => absurd (by rw [mv_at]; decide) c36)
      refine a_aload_n cx dX3_spreadAfter_41 rfl ?_
      refine m_callv cx (k3_thinks cx.htr) (lw_V q2237 q2239 qs59 q87 q2240) dn_X3_thinks (RN.of rfl rfl rfl rfl) rfl hm rfl rfl (Nat.le_of_ble_eq_true rfl) dX3_spreadAfter_42 (Nat.zero_le _) (Nat.zero_le _) (fun h hm => ?_)
      refine a_iconst cx (v := 0) dX3_spreadAfter_45 (by decide) ?_
      refine a_istore_n cx dX3_spreadAfter_46 (Nat.le_of_ble_eq_true rfl) rfl ?_
      have loop : ∀ (j k : Nat) (τ : MS) (h : AH), k ≤ m → m < k + j → MSt g ad h0 τ h → SX (ma (mv σ 0 0) 5 ((mv σ 0 0).2 1)) τ (rnds (σ.2 1) k) scr → AW g M 0 0 47 [some (.ref (ad 0)), some (.int (nI m)), some (.int (nI k)), none] [] h := by
        intro j
        induction j with
        | zero => intro k τ h h1 h2; omega
        | succ j ih =>
          intro k τ h h0 h1 hm hx
          refine a_iload_n cx dX3_spreadAfter_47 rfl ?_
          refine a_iload_n cx dX3_spreadAfter_48 rfl ?_
          refine a_icmp_ge cx (tgt := 63) dX3_spreadAfter_49 (by decide) (fun c49 => ?_) (fun c49 => ?_)
          · have d49 := le_nI c49 (by omega) (by omega)
            have e49 : k = m := by omega
            subst e49
            refine a_aload_n cx dX3_spreadAfter_63 rfl ?_
            refine m_calli cx (k3_spreads cx.htr (by rw [hx.row]; exact (rnds_WF hF _).1)) (lw_V q2249 q2251 qs61 q87 q2252) dn_X3_spreads (RN.of rfl rfl rfl rfl) rfl hm rfl rfl (Nat.le_of_ble_eq_true rfl) dX3_spreadAfter_64 (Nat.zero_le _) (Nat.zero_le _) (fun h hm => ?_)
            rw [hx.row, rnds_H]
            refine a_istore_n cx dX3_spreadAfter_67 (Nat.le_of_ble_eq_true rfl) rfl ?_
            refine a_aload_n cx dX3_spreadAfter_68 rfl ?_
            refine m_callv cx (k3_forgets cx.htr) (lw_V q2241 q2243 qs60 q87 q2244) dn_X3_forgets (RN.of rfl rfl rfl rfl) rfl hm rfl rfl (Nat.le_of_ble_eq_true rfl) dX3_spreadAfter_69 (Nat.zero_le _) (Nat.zero_le _) (fun h hm => ?_)
            refine a_iload_n cx dX3_spreadAfter_72 rfl ?_
            exact a_iret cx hq dX3_spreadAfter_73 ⟨_, ⟨by rw [eA], by rw [eA]; exact RM_think hR hx⟩, hm⟩ (Nat.zero_le _) (Nat.zero_le _)
          · have d49 := nle_nI c49 (by omega) (by omega)
            refine a_aload_n cx dX3_spreadAfter_52 rfl ?_
            refine m_call cx (k3_goesRound cx.htr (by rw [hx.row]; exact rnds_WF hF k)) (lw_V q2201 q2203 qs53 q87 q2204) dn_X3_goesRound (RN.of rfl rfl rfl rfl) rfl hm rfl rfl (Nat.le_of_ble_eq_true rfl) dX3_spreadAfter_53 (Nat.zero_le _) (Nat.zero_le _) (fun v9 ζ h hp hm => ?_)
            obtain ⟨rfl, hz⟩ := hp
            rw [hx.row] at hz
            replace hx := hx.t hz.w
            refine a_istore_n cx dX3_spreadAfter_56 (Nat.le_of_ble_eq_true rfl) rfl ?_
            refine a_iincN cx dX3_spreadAfter_57 rfl (Nat.le_of_ble_eq_true rfl) rfl ?_
            refine a_goto cx (tgt := 47) dX3_spreadAfter_60 (by decide) ?_
            exact (ih (k + 1) _ h (by omega) (by omega) hm hx).loc (by exact ⟨rfl, rfl, rfl, trivial⟩)
      exact loop (m + 1) 0 (ma (mv σ 0 0) 5 ((mv σ 0 0).2 1)) h (by omega) (by omega) hm (SX.rf _)
    · have hn : nH (σ.2 1) = 0 := nI_inj (by omega) (by decide) c21
      have eA : qAfter (σ.2 1) (nI m) = (2, 0) := by unfold qAfter; rw [if_pos p0, if_pos hn]
      refine a_iconst cx (v := 2) dX3_spreadAfter_24 (by decide) ?_
      refine a_goto cx (tgt := 29) dX3_spreadAfter_25 (by decide) ?_
      refine m_put cx (i := 0) fl_X3_53 dX3_spreadAfter_29 hm rfl rfl rfl (fun h hm => ?_)
      refine a_aload_n cx dX3_spreadAfter_32 rfl ?_
      refine a_get cx fl_X3_53.g dX3_spreadAfter_33 hm.o rfl ?_
      refine a_if_le cx (tgt := 41) dX3_spreadAfter_36 (by decide) (fun c36 => absurd c36 (by rw [mv_at]; decide)) (fun c36 => ?_)
      refine a_iconst cx (v := 0) dX3_spreadAfter_39 (by decide) ?_
      exact a_iret cx hq dX3_spreadAfter_40 ⟨_, ⟨by rw [eA]; try rfl, by exact ⟨(mv_at _ _ _).trans (by rw [eA]), hR.v (Or.inl rfl)⟩⟩, hm⟩ (Nat.zero_le _) (Nat.zero_le _)
  · have eA : qAfter (σ.2 1) u = (1, 0) := if_neg (fun q => by have h9 := (bI_0 _).mp c8; rw [q] at h9; cases h9)
    refine a_iconst cx (v := 1) dX3_spreadAfter_11 (by decide) ?_
    refine a_goto cx (tgt := 29) dX3_spreadAfter_12 (by decide) ?_
    refine m_put cx (i := 0) fl_X3_53 dX3_spreadAfter_29 hm rfl rfl rfl (fun h hm => ?_)
    refine a_aload_n cx dX3_spreadAfter_32 rfl ?_
    refine a_get cx fl_X3_53.g dX3_spreadAfter_33 hm.o rfl ?_
    refine a_if_le cx (tgt := 41) dX3_spreadAfter_36 (by decide) (fun c36 => absurd c36 (by rw [mv_at]; decide)) (fun c36 => ?_)
    refine a_iconst cx (v := 0) dX3_spreadAfter_39 (by decide) ?_
    exact a_iret cx hq dX3_spreadAfter_40 ⟨_, ⟨by rw [eA]; try rfl, by exact ⟨(mv_at _ _ _).trans (by rw [eA]), hR.v (Or.inl rfl)⟩⟩, hm⟩ (Nat.zero_le _) (Nat.zero_le _)
abbrev rm_X3_spreadWith : Room := { frames := 4, cells := 0, slots := 0, locals := 88 }
set_option maxHeartbeats 4000000 in
theorem k3_spreadWith {l : Launch} {g : GP} {ad : Nat → Nat} {σ : MS} (htr : l.stackTraces = false) {S : ST} {x y : Int32} (hR : RM S σ) (hF : WF (σ.2 1)) : MK l g ad yX3_spreadWith cX3_spreadWith 7 (some .int) rm_X3_spreadWith σ [.int x, .int y] (fun v σ' => QP S (qWith (σ.2 1) x y) v σ') := by
  refine MK.of (by decide +kernel) htr (Nat.le_of_ble_eq_true rfl) (L0 := [some (.ref (ad 0)), some (.int x), some (.int y), none, none, none, none]) rfl ?_
  intro M h0 h cx _ hq hm
  obtain ⟨hw1, hw2, hw3, hw4⟩ := id hF.1
  have hw := hF.1
  have ho := hF.2.1
  refine a_aload_n cx dX3_spreadWith_0 rfl ?_
  refine a_iload_n cx dX3_spreadWith_1 rfl ?_
  refine a_iload_n cx dX3_spreadWith_2 rfl ?_
  refine s_calli cx (k3_isPlace cx.htr) (lw_S q2064 q2065 q87 q2066) dn_X3_isPlace (RN.of rfl rfl rfl rfl) rfl rfl (Nat.le_of_ble_eq_true rfl) dX3_spreadWith_3 (Nat.zero_le _) (Nat.zero_le _) ?_
  refine a_if_eq cx (tgt := 13) dX3_spreadWith_6 (by decide) (fun c6 => ?_) (fun c6 => ?_)
  · have eA : qWith (σ.2 1) x y = (1, 0) := if_neg (fun q => by have h9 := (bI_0 _).mp c6; rw [q.1, q.2] at h9; cases h9)
    refine a_iconst cx (v := 1) dX3_spreadWith_13 (by decide) ?_
    refine m_put cx (i := 0) fl_X3_53 dX3_spreadWith_14 hm rfl rfl rfl (fun h hm => ?_)
    refine a_aload_n cx dX3_spreadWith_17 rfl ?_
    refine a_get cx fl_X3_53.g dX3_spreadWith_18 hm.o rfl ?_
    refine a_if_le cx (tgt := 26) dX3_spreadWith_21 (by decide) (fun c21 => absurd c21 (by rw [mv_at]; decide)) (fun c21 => ?_)
    refine a_iconst cx (v := 0) dX3_spreadWith_24 (by decide) ?_
    exact a_iret cx hq dX3_spreadWith_25 ⟨_, ⟨by rw [eA]; try rfl, by exact ⟨(mv_at _ _ _).trans (by rw [eA]), hR.v (Or.inl rfl)⟩⟩, hm⟩ (Nat.zero_le _) (Nat.zero_le _)
  · have p6 := bI_n0 c6
    rw [Bool.and_eq_true] at p6
    have eA : qWith (σ.2 1) x y = (0, swt (σ.2 1) x y (nS (σ.2 1))) := by unfold qWith; rw [if_pos p6]
    refine a_iconst cx (v := 0) dX3_spreadWith_9 (by decide) ?_
    refine a_goto cx (tgt := 14) dX3_spreadWith_10 (by decide) ?_
    refine m_put cx (i := 0) fl_X3_53 dX3_spreadWith_14 hm rfl rfl rfl (fun h hm => ?_)
    refine a_aload_n cx dX3_spreadWith_17 rfl ?_
    refine a_get cx fl_X3_53.g dX3_spreadWith_18 hm.o rfl ?_
    refine a_if_le cx (tgt := 26) dX3_spreadWith_21 (by decide) (fun c21 => ?_) (fun c21 => absurd (by rw [mv_at]; decide) c21)
    refine a_iconst cx (v := 0) dX3_spreadWith_26 (by decide) ?_
    refine a_istore_n cx dX3_spreadWith_27 (Nat.le_of_ble_eq_true rfl) rfl ?_
    refine a_iconst cx (v := 0) dX3_spreadWith_28 (by decide) ?_
    refine a_istore cx dX3_spreadWith_29 (Nat.le_of_ble_eq_true rfl) rfl ?_
    have loop : ∀ (j k : Nat) (h : AH), k ≤ nS (σ.2 1) → nS (σ.2 1) < k + j → MSt g ad h0 (mv σ 0 0) h → AW g M 0 0 31 [some (.ref (ad 0)), some (.int x), some (.int y), some (.int (swt (σ.2 1) x y k)), some (.int (nI k)), none, none] [] h := by
      intro j
      induction j with
      | zero => intro k h h1 h2; omega
      | succ j ih =>
        intro k h h1 h2 hm
        refine a_iload cx dX3_spreadWith_31 rfl ?_
        refine a_aload_n cx dX3_spreadWith_33 rfl ?_
        refine a_get cx fl_X3_7.g dX3_spreadWith_34 hm.o rfl ?_
        refine a_iconst cx (v := 0) dX3_spreadWith_37 (by decide) ?_
        refine a_iald cx dX3_spreadWith_38 hm.a1 (show (0 : Int32) = nI 0 from rfl) (by omega) (by decide) ?_
        refine AW.topi hw1 ?_
        refine a_icmp_ge cx (tgt := 134) dX3_spreadWith_39 (by decide) (fun c39 => ?_) (fun c39 => ?_)
        · have d39 := le_nI c39 (by omega) (by omega)
          have e39 : k = nS (σ.2 1) := by omega
          subst e39
          refine a_iload_n cx dX3_spreadWith_134 rfl ?_
          exact a_iret cx hq dX3_spreadWith_135 ⟨_, ⟨by rw [eA]; try rfl, by exact ⟨(mv_at _ _ _).trans (by rw [eA]), hR.v (Or.inl rfl)⟩⟩, hm⟩ (Nat.zero_le _) (Nat.zero_le _)
        · have d39 := nle_nI c39 (by omega) (by omega)
          refine a_aload_n cx dX3_spreadWith_42 rfl ?_
          refine a_get cx fl_X3_7.g dX3_spreadWith_43 hm.o rfl ?_
          refine a_bipush cx (v := 9) dX3_spreadWith_46 (by decide) ?_
          refine a_iload cx dX3_spreadWith_48 rfl ?_
          refine a_iadd cx dX3_spreadWith_50 ?_
          refine a_iald cx dX3_spreadWith_51 hm.a1 (ix0 _) (by omega) (by decide) ?_
          refine a_iload_n cx dX3_spreadWith_52 rfl ?_
          refine a_isub cx dX3_spreadWith_53 ?_
          refine s_calli cx (k3_squared cx.htr) (lw_S q2082 q2083 q87 q2084) dn_X3_squared (RN.of rfl rfl rfl rfl) rfl rfl (Nat.le_of_ble_eq_true rfl) dX3_spreadWith_54 (Nat.zero_le _) (Nat.zero_le _) ?_
          refine a_aload_n cx dX3_spreadWith_57 rfl ?_
          refine a_get cx fl_X3_7.g dX3_spreadWith_58 hm.o rfl ?_
          refine a_bipush cx (v := 27) dX3_spreadWith_61 (by decide) ?_
          refine a_iload cx dX3_spreadWith_63 rfl ?_
          refine a_iadd cx dX3_spreadWith_65 ?_
          refine a_iald cx dX3_spreadWith_66 hm.a1 (ix1 _) (by omega) (by decide) ?_
          refine a_iload_n cx dX3_spreadWith_67 rfl ?_
          refine a_isub cx dX3_spreadWith_68 ?_
          refine s_calli cx (k3_squared cx.htr) (lw_S q2082 q2083 q87 q2084) dn_X3_squared (RN.of rfl rfl rfl rfl) rfl rfl (Nat.le_of_ble_eq_true rfl) dX3_spreadWith_69 (Nat.zero_le _) (Nat.zero_le _) ?_
          refine a_iadd cx dX3_spreadWith_72 ?_
          refine a_istore cx dX3_spreadWith_73 (Nat.le_of_ble_eq_true rfl) rfl ?_
          refine a_aload_n cx dX3_spreadWith_75 rfl ?_
          refine a_iload cx dX3_spreadWith_76 rfl ?_
          refine m_calli cx (k3_nearestOf (σ := mv σ 0 0) cx.htr (by omega) hw) (lw_V q2165 q2167 qs46 q87 q2168) dn_X3_nearestOf (RN.of rfl rfl rfl rfl) rfl hm rfl rfl (Nat.le_of_ble_eq_true rfl) dX3_spreadWith_78 (Nat.zero_le _) (Nat.zero_le _) (fun h hm => ?_)
          refine a_istore cx dX3_spreadWith_81 (Nat.le_of_ble_eq_true rfl) rfl ?_
          have J : ∀ (z w : Int32) (h : AH), MSt g ad h0 (mv σ 0 0) h → z = fWith (σ.2 1) x y k → AW g M 0 0 112 [some (.ref (ad 0)), some (.int x), some (.int y), some (.int (swt (σ.2 1) x y k)), some (.int (nI k)), some (.int z), some (.int w)] [] h := by
            intro z w h hm ez
            subst ez
            refine a_iload_n cx dX3_spreadWith_112 rfl ?_
            refine a_aload_n cx dX3_spreadWith_113 rfl ?_
            refine a_get cx fl_X3_7.g dX3_spreadWith_114 hm.o rfl ?_
            refine a_bipush cx (v := 45) dX3_spreadWith_117 (by decide) ?_
            refine a_iload cx dX3_spreadWith_119 rfl ?_
            refine a_iadd cx dX3_spreadWith_121 ?_
            refine a_iald cx dX3_spreadWith_122 hm.a1 (ix2 _) (by omega) (by decide) ?_
            refine a_iload cx dX3_spreadWith_123 rfl ?_
            refine a_imul cx dX3_spreadWith_125 ?_
            refine a_iadd cx dX3_spreadWith_126 ?_
            refine a_istore_n cx dX3_spreadWith_127 (Nat.le_of_ble_eq_true rfl) rfl ?_
            refine a_iincN cx dX3_spreadWith_128 rfl (Nat.le_of_ble_eq_true rfl) rfl ?_
            refine a_goto cx (tgt := 31) dX3_spreadWith_131 (by decide) ?_
            exact (ih (k + 1) h (by omega) (by omega) hm).loc (by exact ⟨rfl, rfl, rfl, rfl, rfl, trivial⟩)
          refine a_iload cx dX3_spreadWith_83 rfl ?_
          refine a_iconst cx (v := -1) dX3_spreadWith_85 (by decide) ?_
          refine a_icmp_eq cx (tgt := 112) dX3_spreadWith_86 (by decide) (fun c86 => ?_) (fun c86 => ?_)
          · have hn : nearO (σ.2 1) k = none := (oI_m1 (fun b hb => by have := nearO_lt hb; omega)).mp c86
            have r : (((σ.2 1) (9 + k) - x) * ((σ.2 1) (9 + k) - x) + ((σ.2 1) (27 + k) - y) * ((σ.2 1) (27 + k) - y)) = fWith (σ.2 1) x y k := by unfold fWith; rw [hn]
            exact J _ _ h hm r
          · obtain ⟨b, hb⟩ : ∃ b, nearO (σ.2 1) k = some b := by
              cases hq : nearO (σ.2 1) k with
              | none => exact absurd (show oI (nearO (σ.2 1) k) = -1 by rw [hq]; rfl) c86
              | some b => exact ⟨b, rfl⟩
            have hbk := nearO_lt hb
            have eb : oI (nearO (σ.2 1) k) = nI b := by rw [hb]; rfl
            refine a_aload_n cx dX3_spreadWith_89 rfl ?_
            refine a_iload cx dX3_spreadWith_90 rfl ?_
            refine a_iload cx dX3_spreadWith_92 rfl ?_
            refine AW.topi eb ?_
            refine m_calli cx (k3_far (σ := mv σ 0 0) cx.htr (by omega) (by omega)) (lw_V q2161 q2163 qs45 q87 q2164) dn_X3_far (RN.of rfl rfl rfl rfl) rfl hm rfl rfl (Nat.le_of_ble_eq_true rfl) dX3_spreadWith_94 (Nat.zero_le _) (Nat.zero_le _) (fun h hm => ?_)
            refine a_iload cx dX3_spreadWith_97 rfl ?_
            refine a_icmp_ge cx (tgt := 112) dX3_spreadWith_99 (by decide) (fun c99 => ?_) (fun c99 => ?_)
            · have r : (((σ.2 1) (9 + k) - x) * ((σ.2 1) (9 + k) - x) + ((σ.2 1) (27 + k) - y) * ((σ.2 1) (27 + k) - y)) = fWith (σ.2 1) x y k := by unfold fWith; rw [hb]; dsimp only; exact (if_neg (Int32.not_lt.mpr c99)).symm
              exact J _ _ h hm r
            · have r : far (σ.2 1) k b = fWith (σ.2 1) x y k := by unfold fWith; rw [hb]; dsimp only; exact (if_pos (Int32.not_le.mp c99)).symm
              refine a_aload_n cx dX3_spreadWith_102 rfl ?_
              refine a_iload cx dX3_spreadWith_103 rfl ?_
              refine a_iload cx dX3_spreadWith_105 rfl ?_
              refine AW.topi eb ?_
              refine m_calli cx (k3_far (σ := mv σ 0 0) cx.htr (by omega) (by omega)) (lw_V q2161 q2163 qs45 q87 q2164) dn_X3_far (RN.of rfl rfl rfl rfl) rfl hm rfl rfl (Nat.le_of_ble_eq_true rfl) dX3_spreadWith_107 (Nat.zero_le _) (Nat.zero_le _) (fun h hm => ?_)
              refine a_istore cx dX3_spreadWith_110 (Nat.le_of_ble_eq_true rfl) rfl ?_
              exact J _ _ h hm r
    exact loop (nS (σ.2 1) + 1 - 0) 0 h (by omega) (by omega) (hm.eq (by rfl))
abbrev rm_X3_refusal : Room := { frames := 0, cells := 0, slots := 0, locals := 0 }
set_option maxHeartbeats 4000000 in
theorem k3_refusal {l : Launch} {g : GP} {ad : Nat → Nat} {σ : MS} (htr : l.stackTraces = false) {S : ST} {u : Int32} (hR : RM S σ) : MK l g ad yX3_refusal cX3_refusal 2 (some .int) rm_X3_refusal σ [.int u] (fun v σ' => QP S (qRef S u) v σ') := by
  refine MK.of (by decide +kernel) htr (Nat.le_of_ble_eq_true rfl) (L0 := [some (.ref (ad 0)), some (.int u)]) rfl ?_
  intro M h0 h cx _ hq hm
  refine a_aload_n cx dX3_refusal_0 rfl ?_
  refine a_aload_n cx dX3_refusal_1 rfl ?_
  refine a_get cx fl_X3_72.g dX3_refusal_2 hm.o rfl ?_
  refine a_if_ne cx (tgt := 12) dX3_refusal_5 (by decide) (fun c5 => ?_) (fun c5 => ?_)
  · have e5 : ¬ S.why = 0 := fun q => c5 (hR.why.trans q)
    refine a_iconst cx (v := 0) dX3_refusal_12 (by decide) ?_
    refine m_put cx (i := 0) fl_X3_53 dX3_refusal_13 hm rfl rfl rfl (fun h hm => ?_)
    refine a_iload_n cx dX3_refusal_16 rfl ?_
    refine a_if_eq cx (tgt := 27) dX3_refusal_17 (by decide) (fun c17 => ?_) (fun c17 => ?_)
    · refine a_aload_n cx dX3_refusal_27 rfl ?_
      refine a_get cx fl_X3_72.g dX3_refusal_28 hm.o rfl ?_
      exact a_iret cx hq dX3_refusal_31 ⟨_, ⟨by unfold qRef; first | (rw [if_pos c17]; exact congrArg (fun z => some (Value.int z)) hR.why) | (rw [if_neg c17]; exact congrArg (fun z => some (Value.int z)) hR.det), by exact ⟨(mv_at _ _ _).trans (by unfold qRef; first | (rw [if_pos e5]) | (rw [if_neg e5])), hR.v (Or.inl rfl)⟩⟩, hm⟩ (Nat.zero_le _) (Nat.zero_le _)
    · refine a_aload_n cx dX3_refusal_20 rfl ?_
      refine a_get cx fl_X3_75.g dX3_refusal_21 hm.o rfl ?_
      refine a_goto cx (tgt := 31) dX3_refusal_24 (by decide) ?_
      exact a_iret cx hq dX3_refusal_31 ⟨_, ⟨by unfold qRef; first | (rw [if_pos c17]; exact congrArg (fun z => some (Value.int z)) hR.why) | (rw [if_neg c17]; exact congrArg (fun z => some (Value.int z)) hR.det), by exact ⟨(mv_at _ _ _).trans (by unfold qRef; first | (rw [if_pos e5]) | (rw [if_neg e5])), hR.v (Or.inl rfl)⟩⟩, hm⟩ (Nat.zero_le _) (Nat.zero_le _)
  · have e5 : S.why = 0 := hR.why.symm.trans c5
    refine a_iconst cx (v := 1) dX3_refusal_8 (by decide) ?_
    refine a_goto cx (tgt := 13) dX3_refusal_9 (by decide) ?_
    refine m_put cx (i := 0) fl_X3_53 dX3_refusal_13 hm rfl rfl rfl (fun h hm => ?_)
    refine a_iload_n cx dX3_refusal_16 rfl ?_
    refine a_if_eq cx (tgt := 27) dX3_refusal_17 (by decide) (fun c17 => ?_) (fun c17 => ?_)
    · refine a_aload_n cx dX3_refusal_27 rfl ?_
      refine a_get cx fl_X3_72.g dX3_refusal_28 hm.o rfl ?_
      exact a_iret cx hq dX3_refusal_31 ⟨_, ⟨by unfold qRef; first | (rw [if_pos c17]; exact congrArg (fun z => some (Value.int z)) hR.why) | (rw [if_neg c17]; exact congrArg (fun z => some (Value.int z)) hR.det), by exact ⟨(mv_at _ _ _).trans (by unfold qRef; first | (rw [if_pos e5]) | (rw [if_neg e5])), hR.v (Or.inl rfl)⟩⟩, hm⟩ (Nat.zero_le _) (Nat.zero_le _)
    · refine a_aload_n cx dX3_refusal_20 rfl ?_
      refine a_get cx fl_X3_75.g dX3_refusal_21 hm.o rfl ?_
      refine a_goto cx (tgt := 31) dX3_refusal_24 (by decide) ?_
      exact a_iret cx hq dX3_refusal_31 ⟨_, ⟨by unfold qRef; first | (rw [if_pos c17]; exact congrArg (fun z => some (Value.int z)) hR.why) | (rw [if_neg c17]; exact congrArg (fun z => some (Value.int z)) hR.det), by exact ⟨(mv_at _ _ _).trans (by unfold qRef; first | (rw [if_pos e5]) | (rw [if_neg e5])), hR.v (Or.inl rfl)⟩⟩, hm⟩ (Nat.zero_le _) (Nat.zero_le _)
abbrev rm_X3_account : Room := { frames := 2, cells := 0, slots := 0, locals := 45 }
set_option maxHeartbeats 4000000 in
theorem k3_account {l : Launch} {g : GP} {ad : Nat → Nat} {σ : MS} (htr : l.stackTraces = false) {S : ST} {u : Int32} (hR : RM S σ) (hF : WF (σ.2 1)) : MK l g ad yX3_account cX3_account 2 (some .int) rm_X3_account σ [.int u] (fun v σ' => QP S (qAcc S u) v σ') := by
  refine MK.of (by decide +kernel) htr (Nat.le_of_ble_eq_true rfl) (L0 := [some (.ref (ad 0)), some (.int u)]) rfl ?_
  intro M h0 h cx _ hq hm
  obtain ⟨hw1, hw2, hw3, hw4⟩ := id hF.1
  have hw := hF.1
  have ho := hF.2.1
  refine a_aload_n cx dX3_account_0 rfl ?_
  refine a_iconst cx (v := 0) dX3_account_1 (by decide) ?_
  refine m_put cx (i := 0) fl_X3_53 dX3_account_2 hm rfl rfl rfl (fun h hm => ?_)
  refine a_iload_n cx dX3_account_5 rfl ?_
  by_cases e6_0 : u = 0
  · refine AW.topi e6_0 ?_
    refine a_tabIn cx (tgt := 64) dX3_account_6 (by decide) (by decide) rfl (by decide) ?_
    have eA : qAcc S u = (0, nI (nS S.row)) := by unfold qAcc; rw [if_pos e6_0]
    rw [← hR.row] at eA
    refine a_aload_n cx dX3_account_64 rfl ?_
    refine a_get cx fl_X3_7.g dX3_account_65 hm.o rfl ?_
    refine a_iconst cx (v := 0) dX3_account_68 (by decide) ?_
    refine a_iald cx dX3_account_69 hm.a1 (show (0 : Int32) = nI 0 from rfl) (by omega) (by decide) ?_
    refine AW.topi hw1 ?_
    exact a_iret cx hq dX3_account_70 ⟨_, ⟨by rw [eA]; try rfl, by exact ⟨(mv_at _ _ _).trans (by rw [eA]), hR.v (Or.inl rfl)⟩⟩, hm⟩ (Nat.zero_le _) (Nat.zero_le _)
  by_cases e6_1 : u = 1
  · refine AW.topi e6_1 ?_
    refine a_tabIn cx (tgt := 71) dX3_account_6 (by decide) (by decide) rfl (by decide) ?_
    have eA : qAcc S u = (0, nI (nH S.row)) := by unfold qAcc; rw [if_neg e6_0, if_pos e6_1]
    rw [← hR.row] at eA
    refine a_aload_n cx dX3_account_71 rfl ?_
    refine a_get cx fl_X3_7.g dX3_account_72 hm.o rfl ?_
    refine a_iconst cx (v := 1) dX3_account_75 (by decide) ?_
    refine a_iald cx dX3_account_76 hm.a1 (show (1 : Int32) = nI 1 from rfl) (by omega) (by decide) ?_
    refine AW.topi hw3 ?_
    exact a_iret cx hq dX3_account_77 ⟨_, ⟨by rw [eA]; try rfl, by exact ⟨(mv_at _ _ _).trans (by rw [eA]), hR.v (Or.inl rfl)⟩⟩, hm⟩ (Nat.zero_le _) (Nat.zero_le _)
  by_cases e6_2 : u = 2
  · refine AW.topi e6_2 ?_
    refine a_tabIn cx (tgt := 78) dX3_account_6 (by decide) (by decide) rfl (by decide) ?_
    have eA : qAcc S u = (0, allW S.row (nS S.row)) := by unfold qAcc; rw [if_neg e6_0, if_neg e6_1, if_pos e6_2]
    rw [← hR.row] at eA
    refine a_aload_n cx dX3_account_78 rfl ?_
    refine m_calli cx (k3_allWeights (σ := mv σ 0 0) cx.htr hw) (lw_V q2341 q2343 qs68 q87 q2344) dn_X3_allWeights (RN.of rfl rfl rfl rfl) rfl hm rfl rfl (Nat.le_of_ble_eq_true rfl) dX3_account_79 (Nat.zero_le _) (Nat.zero_le _) (fun h hm => ?_)
    exact a_iret cx hq dX3_account_82 ⟨_, ⟨by rw [eA]; try rfl, by exact ⟨(mv_at _ _ _).trans (by rw [eA]), hR.v (Or.inl rfl)⟩⟩, hm⟩ (Nat.zero_le _) (Nat.zero_le _)
  by_cases e6_3 : u = 3
  · refine AW.topi e6_3 ?_
    refine a_tabIn cx (tgt := 83) dX3_account_6 (by decide) (by decide) rfl (by decide) ?_
    have eA : qAcc S u = (0, nI (emp S.row (nH S.row))) := by unfold qAcc; rw [if_neg e6_0, if_neg e6_1, if_neg e6_2, if_pos e6_3]
    rw [← hR.row] at eA
    refine a_aload_n cx dX3_account_83 rfl ?_
    refine m_calli cx (k3_emptyHuts (σ := mv σ 0 0) cx.htr hw) (lw_V q2345 q2347 qs69 q87 q2348) dn_X3_emptyHuts (RN.of rfl rfl rfl rfl) rfl hm rfl rfl (Nat.le_of_ble_eq_true rfl) dX3_account_84 (Nat.zero_le _) (Nat.zero_le _) (fun h hm => ?_)
    exact a_iret cx hq dX3_account_87 ⟨_, ⟨by rw [eA]; try rfl, by exact ⟨(mv_at _ _ _).trans (by rw [eA]), hR.v (Or.inl rfl)⟩⟩, hm⟩ (Nat.zero_le _) (Nat.zero_le _)
  by_cases e6_4 : u = 4
  · refine AW.topi e6_4 ?_
    refine a_tabIn cx (tgt := 88) dX3_account_6 (by decide) (by decide) rfl (by decide) ?_
    have eA : qAcc S u = (0, nI (cnt S.row (-1) (nS S.row))) := by unfold qAcc; rw [if_neg e6_0, if_neg e6_1, if_neg e6_2, if_neg e6_3, if_pos e6_4]
    rw [← hR.row] at eA
    refine a_aload_n cx dX3_account_88 rfl ?_
    refine a_iconst cx (v := -1) dX3_account_89 (by decide) ?_
    refine m_calli cx (k3_flock (σ := mv σ 0 0) cx.htr hw) (lw_V q2137 q2139 qs42 q87 q2140) dn_X3_flock (RN.of rfl rfl rfl rfl) rfl hm rfl rfl (Nat.le_of_ble_eq_true rfl) dX3_account_90 (Nat.zero_le _) (Nat.zero_le _) (fun h hm => ?_)
    exact a_iret cx hq dX3_account_93 ⟨_, ⟨by rw [eA]; try rfl, by exact ⟨(mv_at _ _ _).trans (by rw [eA]), hR.v (Or.inl rfl)⟩⟩, hm⟩ (Nat.zero_le _) (Nat.zero_le _)
  by_cases e6_5 : u = 5
  · refine AW.topi e6_5 ?_
    refine a_tabIn cx (tgt := 94) dX3_account_6 (by decide) (by decide) rfl (by decide) ?_
    have eA : qAcc S u = (0, S.row 2) := by unfold qAcc; rw [if_neg e6_0, if_neg e6_1, if_neg e6_2, if_neg e6_3, if_neg e6_4, if_pos e6_5]
    rw [← hR.row] at eA
    refine a_aload_n cx dX3_account_94 rfl ?_
    refine a_get cx fl_X3_7.g dX3_account_95 hm.o rfl ?_
    refine a_iconst cx (v := 2) dX3_account_98 (by decide) ?_
    refine a_iald cx dX3_account_99 hm.a1 (show (2 : Int32) = nI 2 from rfl) (by omega) (by decide) ?_
    exact a_iret cx hq dX3_account_100 ⟨_, ⟨by rw [eA]; try rfl, by exact ⟨(mv_at _ _ _).trans (by rw [eA]), hR.v (Or.inl rfl)⟩⟩, hm⟩ (Nat.zero_le _) (Nat.zero_le _)
  by_cases e6_6 : u = 6
  · refine AW.topi e6_6 ?_
    refine a_tabIn cx (tgt := 101) dX3_account_6 (by decide) (by decide) rfl (by decide) ?_
    have eA : qAcc S u = (0, S.row 3) := by unfold qAcc; rw [if_neg e6_0, if_neg e6_1, if_neg e6_2, if_neg e6_3, if_neg e6_4, if_neg e6_5, if_pos e6_6]
    rw [← hR.row] at eA
    refine a_aload_n cx dX3_account_101 rfl ?_
    refine a_get cx fl_X3_7.g dX3_account_102 hm.o rfl ?_
    refine a_iconst cx (v := 3) dX3_account_105 (by decide) ?_
    refine a_iald cx dX3_account_106 hm.a1 (show (3 : Int32) = nI 3 from rfl) (by omega) (by decide) ?_
    exact a_iret cx hq dX3_account_107 ⟨_, ⟨by rw [eA]; try rfl, by exact ⟨(mv_at _ _ _).trans (by rw [eA]), hR.v (Or.inl rfl)⟩⟩, hm⟩ (Nat.zero_le _) (Nat.zero_le _)
  by_cases e6_7 : u = 7
  · refine AW.topi e6_7 ?_
    refine a_tabIn cx (tgt := 108) dX3_account_6 (by decide) (by decide) rfl (by decide) ?_
    have eA : qAcc S u = (0, S.row 4) := by unfold qAcc; rw [if_neg e6_0, if_neg e6_1, if_neg e6_2, if_neg e6_3, if_neg e6_4, if_neg e6_5, if_neg e6_6, if_pos e6_7]
    rw [← hR.row] at eA
    refine a_aload_n cx dX3_account_108 rfl ?_
    refine a_get cx fl_X3_7.g dX3_account_109 hm.o rfl ?_
    refine a_iconst cx (v := 4) dX3_account_112 (by decide) ?_
    refine a_iald cx dX3_account_113 hm.a1 (show (4 : Int32) = nI 4 from rfl) (by omega) (by decide) ?_
    exact a_iret cx hq dX3_account_114 ⟨_, ⟨by rw [eA]; try rfl, by exact ⟨(mv_at _ _ _).trans (by rw [eA]), hR.v (Or.inl rfl)⟩⟩, hm⟩ (Nat.zero_le _) (Nat.zero_le _)
  by_cases e6_8 : u = 8
  · refine AW.topi e6_8 ?_
    refine a_tabIn cx (tgt := 115) dX3_account_6 (by decide) (by decide) rfl (by decide) ?_
    have eA : qAcc S u = (0, S.row 5) := by unfold qAcc; rw [if_neg e6_0, if_neg e6_1, if_neg e6_2, if_neg e6_3, if_neg e6_4, if_neg e6_5, if_neg e6_6, if_neg e6_7, if_pos e6_8]
    rw [← hR.row] at eA
    refine a_aload_n cx dX3_account_115 rfl ?_
    refine a_get cx fl_X3_7.g dX3_account_116 hm.o rfl ?_
    refine a_iconst cx (v := 5) dX3_account_119 (by decide) ?_
    refine a_iald cx dX3_account_120 hm.a1 (show (5 : Int32) = nI 5 from rfl) (by omega) (by decide) ?_
    exact a_iret cx hq dX3_account_121 ⟨_, ⟨by rw [eA]; try rfl, by exact ⟨(mv_at _ _ _).trans (by rw [eA]), hR.v (Or.inl rfl)⟩⟩, hm⟩ (Nat.zero_le _) (Nat.zero_le _)
  by_cases e6_9 : u = 9
  · refine AW.topi e6_9 ?_
    refine a_tabIn cx (tgt := 122) dX3_account_6 (by decide) (by decide) rfl (by decide) ?_
    have eA : qAcc S u = (0, nI S.text.length) := by unfold qAcc; rw [if_neg e6_0, if_neg e6_1, if_neg e6_2, if_neg e6_3, if_neg e6_4, if_neg e6_5, if_neg e6_6, if_neg e6_7, if_neg e6_8, if_pos e6_9]
    refine a_aload_n cx dX3_account_122 rfl ?_
    refine a_get cx fl_X3_222.g dX3_account_123 hm.o rfl ?_
    exact a_iret cx hq dX3_account_126 ⟨_, ⟨by rw [eA]; exact congrArg (fun z => some (Value.int z)) hR.len, by exact ⟨(mv_at _ _ _).trans (by rw [eA]), hR.v (Or.inl rfl)⟩⟩, hm⟩ (Nat.zero_le _) (Nat.zero_le _)
  by_cases e6_10 : u = 10
  · refine AW.topi e6_10 ?_
    refine a_tabIn cx (tgt := 127) dX3_account_6 (by decide) (by decide) rfl (by decide) ?_
    have eA : qAcc S u = (0, nI S.hist.length) := by unfold qAcc; rw [if_neg e6_0, if_neg e6_1, if_neg e6_2, if_neg e6_3, if_neg e6_4, if_neg e6_5, if_neg e6_6, if_neg e6_7, if_neg e6_8, if_neg e6_9, if_pos e6_10]
    refine a_aload_n cx dX3_account_127 rfl ?_
    refine a_get cx fl_X3_56.g dX3_account_128 hm.o rfl ?_
    exact a_iret cx hq dX3_account_131 ⟨_, ⟨by rw [eA]; exact congrArg (fun z => some (Value.int z)) hR.kept, by exact ⟨(mv_at _ _ _).trans (by rw [eA]), hR.v (Or.inl rfl)⟩⟩, hm⟩ (Nat.zero_le _) (Nat.zero_le _)
  refine a_tabD cx (tgt := 132) dX3_account_6 (fun i hi => match i, hi with | 0, _ => Or.inr e6_0 | 1, _ => Or.inr e6_1 | 2, _ => Or.inr e6_2 | 3, _ => Or.inr e6_3 | 4, _ => Or.inr e6_4 | 5, _ => Or.inr e6_5 | 6, _ => Or.inr e6_6 | 7, _ => Or.inr e6_7 | 8, _ => Or.inr e6_8 | 9, _ => Or.inr e6_9 | 10, _ => Or.inr e6_10 | i + 11, hi => absurd hi (by omega)) (by decide) ?_
  have eA : qAcc S u = (1, 0) := by unfold qAcc; rw [if_neg e6_0, if_neg e6_1, if_neg e6_2, if_neg e6_3, if_neg e6_4, if_neg e6_5, if_neg e6_6, if_neg e6_7, if_neg e6_8, if_neg e6_9, if_neg e6_10]
  refine a_aload_n cx dX3_account_132 rfl ?_
  refine a_iconst cx (v := 1) dX3_account_133 (by decide) ?_
  refine m_calli cx (k3_fails cx.htr) (lw_V q2097 q2099 qs35 q87 q2100) dn_X3_fails (RN.of rfl rfl rfl rfl) rfl hm rfl rfl (Nat.le_of_ble_eq_true rfl) dX3_account_134 (Nat.zero_le _) (Nat.zero_le _) (fun h hm => ?_)
  exact a_iret cx hq dX3_account_137 ⟨_, ⟨by rw [eA]; try rfl, by exact ⟨(mv_at _ _ _).trans (by rw [eA]), (hR.v (k := 0) (x := 0) (Or.inl rfl)).v (Or.inl rfl)⟩⟩, hm⟩ (Nat.zero_le _) (Nat.zero_le _)
abbrev rm_X3_errorPosition : Room := { frames := 1, cells := 0, slots := 0, locals := 21 }
set_option maxHeartbeats 4000000 in
theorem k3_errorPosition {l : Launch} {g : GP} {ad : Nat → Nat} {σ : MS} (htr : l.stackTraces = false) {S : ST} (hR : RM S σ) (hb0 : ∀ b, S.fault = some b → b < 1000) : MK l g ad yX3_errorPosition cX3_errorPosition 1 (some .int) rm_X3_errorPosition σ [] (fun v σ' => QP S (qPos S.fault) v σ') := by
  refine MK.of (by decide +kernel) htr (Nat.le_of_ble_eq_true rfl) (L0 := [some (.ref (ad 0))]) rfl ?_
  intro M h0 h cx _ hq hm
  refine a_aload_n cx dX3_errorPosition_0 rfl ?_
  refine a_iconst cx (v := 0) dX3_errorPosition_1 (by decide) ?_
  refine m_put cx (i := 0) fl_X3_53 dX3_errorPosition_2 hm rfl rfl rfl (fun h hm => ?_)
  refine a_aload_n cx dX3_errorPosition_5 rfl ?_
  refine a_get cx fl_X3_43.g dX3_errorPosition_6 hm.o rfl ?_
  refine a_iconst cx (v := -1) dX3_errorPosition_9 (by decide) ?_
  refine a_icmp_ne cx (tgt := 21) dX3_errorPosition_10 (by decide) (fun c10 => ?_) (fun c10 => ?_)
  · obtain ⟨b, hb⟩ : ∃ b, S.fault = some b := by
      cases hq : S.fault with
      | none => exact absurd (show (mv σ 0 0).1 5 = -1 from hR.fault.trans (by rw [hq]; rfl)) c10
      | some b => exact ⟨b, rfl⟩
    have eA : qPos S.fault = (0, nI b) := by rw [hb]; rfl
    refine a_aload_n cx dX3_errorPosition_21 rfl ?_
    refine a_get cx fl_X3_43.g dX3_errorPosition_22 hm.o rfl ?_
    exact a_iret cx hq dX3_errorPosition_25 ⟨_, ⟨by rw [eA]; exact congrArg (fun z => some (Value.int z)) (hR.fault.trans (by rw [hb]; rfl)), by exact ⟨(mv_at _ _ _).trans (by rw [eA]), hR.v (Or.inl rfl)⟩⟩, hm⟩ (Nat.zero_le _) (Nat.zero_le _)
  · have hn : S.fault = none := (oI_m1 (fun b hb => by have := hb0 b hb; omega)).mp (hR.fault.symm.trans c10)
    have eA : qPos S.fault = (1, 0) := by rw [hn]; rfl
    refine a_aload_n cx dX3_errorPosition_13 rfl ?_
    refine a_iconst cx (v := 1) dX3_errorPosition_14 (by decide) ?_
    refine m_calli cx (k3_fails cx.htr) (lw_V q2097 q2099 qs35 q87 q2100) dn_X3_fails (RN.of rfl rfl rfl rfl) rfl hm rfl rfl (Nat.le_of_ble_eq_true rfl) dX3_errorPosition_15 (Nat.zero_le _) (Nat.zero_le _) (fun h hm => ?_)
    refine a_goto cx (tgt := 25) dX3_errorPosition_18 (by decide) ?_
    exact a_iret cx hq dX3_errorPosition_25 ⟨_, ⟨by rw [eA]; try rfl, by exact ⟨(mv_at _ _ _).trans (by rw [eA]), (hR.v (k := 0) (x := 0) (Or.inl rfl)).v (Or.inl rfl)⟩⟩, hm⟩ (Nat.zero_le _) (Nat.zero_le _)
abbrev rm_X3_refusedItem : Room := { frames := 1, cells := 0, slots := 0, locals := 21 }
set_option maxHeartbeats 4000000 in
theorem k3_refusedItem {l : Launch} {g : GP} {ad : Nat → Nat} {σ : MS} (htr : l.stackTraces = false) {S : ST} (hR : RM S σ) (hb0 : ∀ b, S.item = some b → b < 1000) : MK l g ad yX3_refusedItem cX3_refusedItem 1 (some .int) rm_X3_refusedItem σ [] (fun v σ' => QP S (qPos S.item) v σ') := by
  refine MK.of (by decide +kernel) htr (Nat.le_of_ble_eq_true rfl) (L0 := [some (.ref (ad 0))]) rfl ?_
  intro M h0 h cx _ hq hm
  refine a_aload_n cx dX3_refusedItem_0 rfl ?_
  refine a_iconst cx (v := 0) dX3_refusedItem_1 (by decide) ?_
  refine m_put cx (i := 0) fl_X3_53 dX3_refusedItem_2 hm rfl rfl rfl (fun h hm => ?_)
  refine a_aload_n cx dX3_refusedItem_5 rfl ?_
  refine a_get cx fl_X3_47.g dX3_refusedItem_6 hm.o rfl ?_
  refine a_iconst cx (v := -1) dX3_refusedItem_9 (by decide) ?_
  refine a_icmp_ne cx (tgt := 21) dX3_refusedItem_10 (by decide) (fun c10 => ?_) (fun c10 => ?_)
  · obtain ⟨b, hb⟩ : ∃ b, S.item = some b := by
      cases hq : S.item with
      | none => exact absurd (show (mv σ 0 0).1 6 = -1 from hR.item.trans (by rw [hq]; rfl)) c10
      | some b => exact ⟨b, rfl⟩
    have eA : qPos S.item = (0, nI b) := by rw [hb]; rfl
    refine a_aload_n cx dX3_refusedItem_21 rfl ?_
    refine a_get cx fl_X3_47.g dX3_refusedItem_22 hm.o rfl ?_
    exact a_iret cx hq dX3_refusedItem_25 ⟨_, ⟨by rw [eA]; exact congrArg (fun z => some (Value.int z)) (hR.item.trans (by rw [hb]; rfl)), by exact ⟨(mv_at _ _ _).trans (by rw [eA]), hR.v (Or.inl rfl)⟩⟩, hm⟩ (Nat.zero_le _) (Nat.zero_le _)
  · have hn : S.item = none := (oI_m1 (fun b hb => by have := hb0 b hb; omega)).mp (hR.item.symm.trans c10)
    have eA : qPos S.item = (1, 0) := by rw [hn]; rfl
    refine a_aload_n cx dX3_refusedItem_13 rfl ?_
    refine a_iconst cx (v := 1) dX3_refusedItem_14 (by decide) ?_
    refine m_calli cx (k3_fails cx.htr) (lw_V q2097 q2099 qs35 q87 q2100) dn_X3_fails (RN.of rfl rfl rfl rfl) rfl hm rfl rfl (Nat.le_of_ble_eq_true rfl) dX3_refusedItem_15 (Nat.zero_le _) (Nat.zero_le _) (fun h hm => ?_)
    refine a_goto cx (tgt := 25) dX3_refusedItem_18 (by decide) ?_
    exact a_iret cx hq dX3_refusedItem_25 ⟨_, ⟨by rw [eA]; try rfl, by exact ⟨(mv_at _ _ _).trans (by rw [eA]), (hR.v (k := 0) (x := 0) (Or.inl rfl)).v (Or.inl rfl)⟩⟩, hm⟩ (Nat.zero_le _) (Nat.zero_le _)
abbrev rm_X3_clear : Room := { frames := 1, cells := 0, slots := 0, locals := 21 }
set_option maxHeartbeats 4000000 in
theorem k3_clear {l : Launch} {g : GP} {ad : Nat → Nat} {σ : MS} (htr : l.stackTraces = false) {S : ST} (hR : RM S σ) : MK l g ad yX3_clear cX3_clear 2 (some .int) rm_X3_clear σ [] (fun v σ' => v = some (.int ((σ.2 1) 0)) ∧ σ'.1 0 = 0 ∧ RM ((S.wRow sNew).wHist []) σ') := by
  refine MK.of (by decide +kernel) htr (Nat.le_of_ble_eq_true rfl) (L0 := [some (.ref (ad 0)), none]) rfl ?_
  intro M h0 h cx _ hq hm
  refine a_aload_n cx dX3_clear_0 rfl ?_
  refine a_iconst cx (v := 0) dX3_clear_1 (by decide) ?_
  refine m_put cx (i := 0) fl_X3_53 dX3_clear_2 hm rfl rfl rfl (fun h hm => ?_)
  refine a_aload_n cx dX3_clear_5 rfl ?_
  refine a_get cx fl_X3_7.g dX3_clear_6 hm.o rfl ?_
  refine a_iconst cx (v := 0) dX3_clear_9 (by decide) ?_
  refine a_iald cx dX3_clear_10 hm.a1 (show (0 : Int32) = nI 0 from rfl) (by omega) (by decide) ?_
  refine a_istore_n cx dX3_clear_11 (Nat.le_of_ble_eq_true rfl) rfl ?_
  refine a_aload_n cx dX3_clear_12 rfl ?_
  refine m_callv cx (k3_begins cx.htr) (lw_V q1961 q1963 qs26 q87 q1964) dn_X3_begins (RN.of rfl rfl rfl rfl) rfl hm rfl rfl (Nat.le_of_ble_eq_true rfl) dX3_clear_13 (Nat.zero_le _) (Nat.zero_le _) (fun h hm => ?_)
  refine a_aload_n cx dX3_clear_16 rfl ?_
  refine a_iconst cx (v := 0) dX3_clear_17 (by decide) ?_
  refine m_put cx (i := 1) fl_X3_56 dX3_clear_18 hm rfl rfl rfl (fun h hm => ?_)
  refine a_iload_n cx dX3_clear_21 rfl ?_
  exact a_iret cx hq dX3_clear_22 ⟨_, ⟨rfl, by exact ⟨mv_at σ 0 0, hR.clear⟩⟩, hm⟩ (Nat.zero_le _) (Nat.zero_le _)
abbrev rm_X3_snapshot : Room := { frames := 0, cells := 0, slots := 0, locals := 0 }
set_option maxHeartbeats 4000000 in
theorem k3_snapshot {l : Launch} {g : GP} {ad : Nat → Nat} {σ : MS} (htr : l.stackTraces = false) {S : ST} (hR : RM S σ) : MK l g ad yX3_snapshot cX3_snapshot 2 (some .int) rm_X3_snapshot σ [] (fun v σ' => v = some (.int ((σ.2 1) 0)) ∧ σ'.1 0 = 0 ∧ RM (S.wSaved (some (σ.2 1))) σ') := by
  refine MK.of (by decide +kernel) htr (Nat.le_of_ble_eq_true rfl) (L0 := [some (.ref (ad 0)), none]) rfl ?_
  intro M h0 h cx _ hq hm
  refine a_aload_n cx dX3_snapshot_0 rfl ?_
  refine a_iconst cx (v := 0) dX3_snapshot_1 (by decide) ?_
  refine m_put cx (i := 0) fl_X3_53 dX3_snapshot_2 hm rfl rfl rfl (fun h hm => ?_)
  refine a_iconst cx (v := 0) dX3_snapshot_5 (by decide) ?_
  refine a_istore_n cx dX3_snapshot_6 (Nat.le_of_ble_eq_true rfl) rfl ?_
  have loop : ∀ (j k : Nat) (h : AH), k ≤ 93 → 93 < k + j → MSt g ad h0 (ma (mv σ 0 0) 3 (cpf (σ.2 3) (σ.2 1) k)) h → AW g M 0 0 7 [some (.ref (ad 0)), some (.int (nI k))] [] h := by
    intro j
    induction j with
    | zero => intro k h h1 h2; omega
    | succ j ih =>
      intro k h h1 h2 hm
      refine a_iload_n cx dX3_snapshot_7 rfl ?_
      refine a_bipush cx (v := 93) dX3_snapshot_8 (by decide) ?_
      refine a_icmp_ge cx (tgt := 31) dX3_snapshot_10 (by decide) (fun c10 => ?_) (fun c10 => ?_)
      · have d10 := le_nI (a := 93) c10 (by omega) (by omega)
        have e10 : k = 93 := by omega
        subst e10
        refine a_aload_n cx dX3_snapshot_31 rfl ?_
        refine a_iconst cx (v := 1) dX3_snapshot_32 (by decide) ?_
        refine m_put cx (i := 2) fl_X3_283 dX3_snapshot_33 hm rfl rfl rfl (fun h hm => ?_)
        refine a_aload_n cx dX3_snapshot_36 rfl ?_
        refine a_get cx fl_X3_7.g dX3_snapshot_37 hm.o rfl ?_
        refine a_iconst cx (v := 0) dX3_snapshot_40 (by decide) ?_
        refine a_iald cx dX3_snapshot_41 hm.a1 (show (0 : Int32) = nI 0 from rfl) (by omega) (by decide) ?_
        exact a_iret cx hq dX3_snapshot_42 ⟨_, ⟨rfl, by exact ⟨mv_at σ 0 0, hR.snap⟩⟩, hm⟩ (Nat.zero_le _) (Nat.zero_le _)
      · have d10 := nle_nI (a := 93) c10 (by omega) (by omega)
        refine a_aload_n cx dX3_snapshot_13 rfl ?_
        refine a_get cx fl_X3_16.g dX3_snapshot_14 hm.o rfl ?_
        refine a_iload_n cx dX3_snapshot_17 rfl ?_
        refine a_aload_n cx dX3_snapshot_18 rfl ?_
        refine a_get cx fl_X3_7.g dX3_snapshot_19 hm.o rfl ?_
        refine a_iload_n cx dX3_snapshot_22 rfl ?_
        refine a_iald cx dX3_snapshot_23 hm.a1 rfl (by omega) (by decide) ?_
        refine m_iast cx (i := 2) (by decide) dX3_snapshot_24 hm rfl (show _ < 93 from by omega) (fun h hm => ?_)
        refine a_iincN cx dX3_snapshot_25 rfl (Nat.le_of_ble_eq_true rfl) rfl ?_
        refine a_goto cx (tgt := 7) dX3_snapshot_28 (by decide) ?_
        exact ih (k + 1) h (by omega) (by omega) (hm.eq (by rw [ma_ma]; exact congrArg _ (cpf_s _ _ k)))
  exact loop (93 + 1) 0 h (by omega) (by omega) (hm.eq (by rw [cpf_0]; exact (ma_self (mv σ 0 0) 3).symm))
abbrev rm_X3_restore : Room := { frames := 1, cells := 0, slots := 0, locals := 21 }
set_option maxHeartbeats 4000000 in
theorem k3_restore {l : Launch} {g : GP} {ad : Nat → Nat} {σ : MS} (htr : l.stackTraces = false) {S : ST} (hR : RM S σ) : MK l g ad yX3_restore cX3_restore 2 (some .int) rm_X3_restore σ [] (fun v σ' => (S.saved = none → v = some (.int 0) ∧ σ'.1 0 = 1 ∧ RM S σ') ∧ (∀ f, S.saved = some f → v = some (.int (f 0)) ∧ σ'.1 0 = 0 ∧ RM ((S.wRow f).wHist []) σ')) := by
  refine MK.of (by decide +kernel) htr (Nat.le_of_ble_eq_true rfl) (L0 := [some (.ref (ad 0)), none]) rfl ?_
  intro M h0 h cx _ hq hm
  refine a_aload_n cx dX3_restore_0 rfl ?_
  refine a_iconst cx (v := 0) dX3_restore_1 (by decide) ?_
  refine m_put cx (i := 0) fl_X3_53 dX3_restore_2 hm rfl rfl rfl (fun h hm => ?_)
  refine a_aload_n cx dX3_restore_5 rfl ?_
  refine a_get cx fl_X3_283.g dX3_restore_6 hm.o rfl ?_
  refine a_if_ne cx (tgt := 18) dX3_restore_9 (by decide) (fun c9 => ?_) (fun c9 => ?_)
  · obtain ⟨f, hf⟩ : ∃ f, S.saved = some f := by
      cases hq : S.saved with
      | none => exact absurd (hR.has.trans (by rw [hq]; rfl)) c9
      | some f => exact ⟨f, rfl⟩
    refine a_iconst cx (v := 0) dX3_restore_18 (by decide) ?_
    refine a_istore_n cx dX3_restore_19 (Nat.le_of_ble_eq_true rfl) rfl ?_
    have loop : ∀ (j k : Nat) (h : AH), k ≤ 93 → 93 < k + j → MSt g ad h0 (ma (mv σ 0 0) 1 (cpf (σ.2 1) (σ.2 3) k)) h → AW g M 0 0 20 [some (.ref (ad 0)), some (.int (nI k))] [] h := by
      intro j
      induction j with
      | zero => intro k h h1 h2; omega
      | succ j ih =>
        intro k h h1 h2 hm
        refine a_iload_n cx dX3_restore_20 rfl ?_
        refine a_bipush cx (v := 93) dX3_restore_21 (by decide) ?_
        refine a_icmp_ge cx (tgt := 44) dX3_restore_23 (by decide) (fun c23 => ?_) (fun c23 => ?_)
        · have d23 := le_nI (a := 93) c23 (by omega) (by omega)
          have e23 : k = 93 := by omega
          subst e23
          refine m_norm cx 0 (by decide) (f := f) hm (fun j hj => (cpf_lt hj).trans (hR.saved f hf j hj)) (fun h hm => ?_)
          replace hm := hm.eq (ma_ma _ _ _ _)
          refine a_aload_n cx dX3_restore_44 rfl ?_
          refine a_iconst cx (v := 0) dX3_restore_45 (by decide) ?_
          refine m_put cx (i := 1) fl_X3_56 dX3_restore_46 hm rfl rfl rfl (fun h hm => ?_)
          refine a_aload_n cx dX3_restore_49 rfl ?_
          refine a_get cx fl_X3_7.g dX3_restore_50 hm.o rfl ?_
          refine a_iconst cx (v := 0) dX3_restore_53 (by decide) ?_
          refine a_iald cx dX3_restore_54 hm.a1 (show (0 : Int32) = nI 0 from rfl) (by omega) (by decide) ?_
          exact a_iret cx hq dX3_restore_55 ⟨_, ⟨fun q => (by rw [hf] at q; cases q), fun f9 hf9 => by rw [hf] at hf9; cases hf9; exact ⟨rfl, mv_at σ 0 0, hR.clear⟩⟩, hm⟩ (Nat.zero_le _) (Nat.zero_le _)
        · have d23 := nle_nI (a := 93) c23 (by omega) (by omega)
          refine a_aload_n cx dX3_restore_26 rfl ?_
          refine a_get cx fl_X3_7.g dX3_restore_27 hm.o rfl ?_
          refine a_iload_n cx dX3_restore_30 rfl ?_
          refine a_aload_n cx dX3_restore_31 rfl ?_
          refine a_get cx fl_X3_16.g dX3_restore_32 hm.o rfl ?_
          refine a_iload_n cx dX3_restore_35 rfl ?_
          refine a_iald cx dX3_restore_36 hm.a3 rfl (by omega) (by decide) ?_
          refine m_iast cx (i := 0) (by decide) dX3_restore_37 hm rfl (show _ < 93 from by omega) (fun h hm => ?_)
          refine a_iincN cx dX3_restore_38 rfl (Nat.le_of_ble_eq_true rfl) rfl ?_
          refine a_goto cx (tgt := 20) dX3_restore_41 (by decide) ?_
          exact ih (k + 1) h (by omega) (by omega) (hm.eq (by rw [ma_ma]; exact congrArg _ (cpf_s _ _ k)))
    exact loop (93 + 1) 0 h (by omega) (by omega) (hm.eq (by rw [cpf_0]; exact (ma_self (mv σ 0 0) 1).symm))
  · have hn : S.saved = none := by
      have h9 := (bI_0 _).mp (hR.has.symm.trans c9)
      cases hq : S.saved with
      | none => rfl
      | some f => rw [hq] at h9; cases h9
    refine a_aload_n cx dX3_restore_12 rfl ?_
    refine a_iconst cx (v := 1) dX3_restore_13 (by decide) ?_
    refine m_calli cx (k3_fails cx.htr) (lw_V q2097 q2099 qs35 q87 q2100) dn_X3_fails (RN.of rfl rfl rfl rfl) rfl hm rfl rfl (Nat.le_of_ble_eq_true rfl) dX3_restore_14 (Nat.zero_le _) (Nat.zero_le _) (fun h hm => ?_)
    exact a_iret cx hq dX3_restore_17 ⟨_, ⟨fun _ => ⟨rfl, mv_at _ _ _, (hR.v (k := 0) (x := 0) (Or.inl rfl)).v (Or.inl rfl)⟩, fun f hf => by rw [hn] at hf; cases hf⟩, hm⟩ (Nat.zero_le _) (Nat.zero_le _)
abbrev rm_X3_undo : Room := { frames := 1, cells := 0, slots := 0, locals := 21 }
set_option maxHeartbeats 4000000 in
theorem k3_undo {l : Launch} {g : GP} {ad : Nat → Nat} {σ : MS} (htr : l.stackTraces = false) {S : ST} (hR : RM S σ) (hl8 : S.hist.length ≤ 8) : MK l g ad yX3_undo cX3_undo 2 (some .int) rm_X3_undo σ [] (fun v σ' => (S.hist = [] → v = some (.int 0) ∧ σ'.1 0 = 1 ∧ RM S σ') ∧ (∀ l f, S.hist = l ++ [f] → v = some (.int (nI l.length)) ∧ σ'.1 0 = 0 ∧ RM ((S.wRow f).wHist l) σ')) := by
  refine MK.of (by decide +kernel) htr (Nat.le_of_ble_eq_true rfl) (L0 := [some (.ref (ad 0)), none]) rfl ?_
  intro M h0 h cx _ hq hm
  refine a_aload_n cx dX3_undo_0 rfl ?_
  refine a_iconst cx (v := 0) dX3_undo_1 (by decide) ?_
  refine m_put cx (i := 0) fl_X3_53 dX3_undo_2 hm rfl rfl rfl (fun h hm => ?_)
  refine a_aload_n cx dX3_undo_5 rfl ?_
  refine a_get cx fl_X3_56.g dX3_undo_6 hm.o rfl ?_
  refine a_if_ne cx (tgt := 18) dX3_undo_9 (by decide) (fun c9 => ?_) (fun c9 => ?_)
  · obtain ⟨l, f, hf⟩ : ∃ l f, S.hist = l ++ [f] := by
      rcases List.eq_nil_or_concat S.hist with hq | ⟨l, f, hq⟩
      · exact absurd (hR.kept.trans (by rw [hq]; rfl)) c9
      · exact ⟨l, f, by rw [hq, List.concat_eq_append]⟩
    have hl : S.hist.length = l.length + 1 := by rw [hf, List.length_append]; rfl
    have hk : σ.1 1 = nI (l.length + 1) := hR.kept.trans (by rw [hl])
    refine a_aload_n cx dX3_undo_18 rfl ?_
    refine a_dup cx dX3_undo_19 rfl ?_
    refine a_get cx fl_X3_56.g dX3_undo_20 hm.o rfl ?_
    refine AW.topi (show (mv σ 0 0).1 1 = nI (l.length + 1) from hk) ?_
    refine a_iconst cx (v := 1) dX3_undo_23 (by decide) ?_
    refine a_isub cx dX3_undo_24 ?_
    refine AW.topi (nI_p (by omega) (by omega)) ?_
    refine m_put cx (i := 1) fl_X3_56 dX3_undo_25 hm rfl rfl rfl (fun h hm => ?_)
    refine a_iconst cx (v := 0) dX3_undo_28 (by decide) ?_
    refine a_istore_n cx dX3_undo_29 (Nat.le_of_ble_eq_true rfl) rfl ?_
    have loop : ∀ (j k : Nat) (h : AH), k ≤ 93 → 93 < k + j → MSt g ad h0 (ma (mv (mv σ 0 0) 1 (nI l.length)) 1 (cpf (σ.2 1) (fun j => σ.2 4 (93 * l.length + j)) k)) h → AW g M 0 0 30 [some (.ref (ad 0)), some (.int (nI k))] [] h := by
      intro j
      induction j with
      | zero => intro k h h1 h2; omega
      | succ j ih =>
        intro k h h1 h2 hm
        refine a_iload_n cx dX3_undo_30 rfl ?_
        refine a_bipush cx (v := 93) dX3_undo_31 (by decide) ?_
        refine a_icmp_ge cx (tgt := 62) dX3_undo_33 (by decide) (fun c33 => ?_) (fun c33 => ?_)
        · have d33 := le_nI (a := 93) c33 (by omega) (by omega)
          have e33 : k = 93 := by omega
          subst e33
          refine m_norm cx 0 (by decide) (f := f) hm (fun j hj => (cpf_lt (f := σ.2 1) (s := fun j => σ.2 4 (93 * l.length + j)) hj).trans (hR.hist l.length f (by rw [hf, List.getElem?_append_right (Nat.le_refl _), Nat.sub_self]; rfl) j hj)) (fun h hm => ?_)
          replace hm := hm.eq (ma_ma _ _ _ _)
          refine a_aload_n cx dX3_undo_62 rfl ?_
          refine a_get cx fl_X3_56.g dX3_undo_63 hm.o rfl ?_
          refine AW.topi (show _ = nI l.length from mv_at (mv σ 0 0) 1 _) ?_
          exact a_iret cx hq dX3_undo_66 ⟨_, ⟨fun q => (by rw [hf] at q; exact absurd q (by simp)), fun l9 f9 hf9 => by
  rw [hf] at hf9
  obtain ⟨rfl, e9⟩ := List.append_inj' hf9 rfl
  cases e9
  exact ⟨rfl, mv_at σ 0 0, hR.undo hf⟩⟩, hm⟩ (Nat.zero_le _) (Nat.zero_le _)
        · have d33 := nle_nI (a := 93) c33 (by omega) (by omega)
          refine a_aload_n cx dX3_undo_36 rfl ?_
          refine a_get cx fl_X3_7.g dX3_undo_37 hm.o rfl ?_
          refine a_iload_n cx dX3_undo_40 rfl ?_
          refine a_aload_n cx dX3_undo_41 rfl ?_
          refine a_get cx fl_X3_19.g dX3_undo_42 hm.o rfl ?_
          refine a_bipush cx (v := 93) dX3_undo_45 (by decide) ?_
          refine a_aload_n cx dX3_undo_47 rfl ?_
          refine a_get cx fl_X3_56.g dX3_undo_48 hm.o rfl ?_
          refine AW.topi (show _ = nI l.length from mv_at (mv σ 0 0) 1 _) ?_
          refine a_imul cx dX3_undo_51 ?_
          refine AW.topi (pk_mul 93 _) ?_
          refine a_iload_n cx dX3_undo_52 rfl ?_
          refine a_iadd cx dX3_undo_53 ?_
          refine AW.topi (nI_add _ _) ?_
          refine a_iald cx dX3_undo_54 hm.a4 rfl (by omega) (by decide) ?_
          refine m_iast cx (i := 0) (by decide) dX3_undo_55 hm rfl (show _ < 93 from by omega) (fun h hm => ?_)
          refine a_iincN cx dX3_undo_56 rfl (Nat.le_of_ble_eq_true rfl) rfl ?_
          refine a_goto cx (tgt := 30) dX3_undo_59 (by decide) ?_
          exact ih (k + 1) h (by omega) (by omega) (hm.eq (by rw [ma_ma]; exact congrArg _ (cpf_s _ (fun j => σ.2 4 (93 * l.length + j)) k)))
    exact loop (93 + 1) 0 h (by omega) (by omega) (hm.eq (by rw [cpf_0]; exact (ma_self (mv (mv σ 0 0) 1 (nI l.length)) 1).symm))
  · have hn : S.hist = [] := by
      have h9 : S.hist.length = 0 := nI_inj (by omega) (by decide) (hR.kept.symm.trans c9)
      exact List.eq_nil_of_length_eq_zero h9
    refine a_aload_n cx dX3_undo_12 rfl ?_
    refine a_iconst cx (v := 1) dX3_undo_13 (by decide) ?_
    refine m_calli cx (k3_fails cx.htr) (lw_V q2097 q2099 qs35 q87 q2100) dn_X3_fails (RN.of rfl rfl rfl rfl) rfl hm rfl rfl (Nat.le_of_ble_eq_true rfl) dX3_undo_14 (Nat.zero_le _) (Nat.zero_le _) (fun h hm => ?_)
    exact a_iret cx hq dX3_undo_17 ⟨_, ⟨fun _ => ⟨rfl, mv_at _ _ _, (hR.v (k := 0) (x := 0) (Or.inl rfl)).v (Or.inl rfl)⟩, fun l f hf => by rw [hn] at hf; exact absurd hf.symm (by simp)⟩, hm⟩ (Nat.zero_le _) (Nat.zero_le _)
