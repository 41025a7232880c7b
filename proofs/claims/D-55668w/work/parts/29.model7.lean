/-! THE MODEL: questions -/
set_option maxRecDepth 100000
theorem a_tabD {g : GP} {M : MC} {own : String} {cc : ByteArray} {nL : Nat} {rt : Option FieldType} {R : Room} {k n pc : Nat} {L : List (Option Value)} {st : List Value} {h : AH} (cx : CX g M own cc nL rt R) {dflt lo hi : Int} {offs : Array Int} {len : Nat} {x : Int32} {tgt : Nat} (d : decode cc pc = .ok (.tableswitch dflt lo hi offs, len)) (hall : ∀ i : Nat, lo + i ≤ hi → offs[i]? = some dflt ∨ x ≠ Int32.ofInt (lo + i)) (ht : (pc : Int) + dflt = (tgt : Int)) (K : AW g M k n tgt L st h) : AW g M k n pc L (.int x :: st) h := by
  by_cases h1 : x.toInt < lo
  · exact a_tabOut cx d (Or.inl h1) ht K
  · by_cases h2 : hi < x.toInt
    · exact a_tabOut cx d (Or.inr h2) ht K
    · refine a_tabIn cx d h1 h2 ((hall (x.toInt - lo).toNat (by omega)).resolve_right (fun q => q ?_)) ht K
      rw [show lo + ((x.toInt - lo).toNat : Int) = x.toInt by omega, Int32.ofInt_toInt]
/-- a question's answer -/
abbrev QP (S : ST) (a : Ans) (v : Option Value) (σ' : MS) : Prop := v = some (.int a.2) ∧ σ'.1 0 = a.1 ∧ RM S σ'
abbrev rm_X3_isStill : Room := { frames := 6, cells := 0, slots := 0, locals := 135 }
set_option maxHeartbeats 4000000 in
theorem k3_isStill {l : Launch} {g : GP} {ad : Nat → Nat} {σ : MS} (htr : l.stackTraces = false) {S : ST}  (hR : RM S σ) (hF : WF (σ.2 1)) : MK l g ad yX3_isStill cX3_isStill 1 (some .boolean) rm_X3_isStill σ [] (fun v σ' => QP S ((0, bI (still (σ.2 1)))) v σ') := by
  refine MK.of (by decide +kernel) htr (Nat.le_of_ble_eq_true rfl) (L0 := [some (.ref (ad 0))]) rfl ?_
  intro M h0 h cx _ hq hm
  obtain ⟨hw1, hw2, hw3, hw4⟩ := id hF.1
  have hw := hF.1
  have ho := hF.2.1
  refine a_aload_n cx dX3_isStill_0 rfl ?_
  refine a_iconst cx (v := 0) dX3_isStill_1 (by decide) ?_
  refine m_put cx (i := 0) fl_X3_53 dX3_isStill_2 hm rfl rfl rfl (fun h hm => ?_)
  refine a_aload_n cx dX3_isStill_5 rfl ?_
  refine m_call cx (k3_isStillNow (σ := mv σ 0 0) cx.htr hF) (lw_V q2225 q2227 qs58 q87 q2228) dn_X3_isStillNow (RN.of rfl rfl rfl rfl) rfl hm rfl rfl (Nat.le_of_ble_eq_true rfl) dX3_isStill_6 (Nat.zero_le _) (Nat.zero_le _) (fun v9 τ h hp hm => ?_)
  obtain ⟨rfl, hx⟩ := hp
  exact a_zret cx hq dX3_isStill_9 (narrow_bI _) ⟨_, ⟨rfl, by exact ⟨(congrFun hx.1 0).trans (mv_at _ _ _), (hR.v (k := 0) (x := 0) (Or.inl rfl)).scr hx⟩⟩, hm⟩ (Nat.zero_le _) (Nat.zero_le _)
abbrev rm_X3_spread : Room := { frames := 5, cells := 0, slots := 0, locals := 110 }
set_option maxHeartbeats 4000000 in
theorem k3_spread {l : Launch} {g : GP} {ad : Nat → Nat} {σ : MS} (htr : l.stackTraces = false) {S : ST} {u : Int32} (hR : RM S σ) (hF : WF (σ.2 1)) : MK l g ad yX3_spread cX3_spread 2 (some .int) rm_X3_spread σ [.int u] (fun v σ' => QP S ((0, sprs (σ.2 1) (nH (σ.2 1)))) v σ') := by
  refine MK.of (by decide +kernel) htr (Nat.le_of_ble_eq_true rfl) (L0 := [some (.ref (ad 0)), some (.int u)]) rfl ?_
  intro M h0 h cx _ hq hm
  obtain ⟨hw1, hw2, hw3, hw4⟩ := id hF.1
  have hw := hF.1
  have ho := hF.2.1
  refine a_aload_n cx dX3_spread_0 rfl ?_
  refine a_iconst cx (v := 0) dX3_spread_1 (by decide) ?_
  refine m_put cx (i := 0) fl_X3_53 dX3_spread_2 hm rfl rfl rfl (fun h hm => ?_)
  refine a_aload_n cx dX3_spread_5 rfl ?_
  refine m_calli cx (k3_spreads (σ := mv σ 0 0) cx.htr hw) (lw_V q2249 q2251 qs61 q87 q2252) dn_X3_spreads (RN.of rfl rfl rfl rfl) rfl hm rfl rfl (Nat.le_of_ble_eq_true rfl) dX3_spread_6 (Nat.zero_le _) (Nat.zero_le _) (fun h hm => ?_)
  exact a_iret cx hq dX3_spread_9 ⟨_, ⟨rfl, ⟨mv_at _ _ _, hR.v (Or.inl rfl)⟩⟩, hm⟩ (Nat.zero_le _) (Nat.zero_le _)
abbrev rm_X3_strays : Room := { frames := 6, cells := 0, slots := 0, locals := 132 }
set_option maxHeartbeats 4000000 in
theorem k3_strays {l : Launch} {g : GP} {ad : Nat → Nat} {σ : MS} (htr : l.stackTraces = false) {S : ST}  (hR : RM S σ) (hF : WF (σ.2 1)) : MK l g ad yX3_strays cX3_strays 1 (some .int) rm_X3_strays σ [] (fun v σ' => QP S ((0, nI (strm (σ.2 1) (nS (σ.2 1))))) v σ') := by
  refine MK.of (by decide +kernel) htr (Nat.le_of_ble_eq_true rfl) (L0 := [some (.ref (ad 0))]) rfl ?_
  intro M h0 h cx _ hq hm
  obtain ⟨hw1, hw2, hw3, hw4⟩ := id hF.1
  have hw := hF.1
  have ho := hF.2.1
  refine a_aload_n cx dX3_strays_0 rfl ?_
  refine a_iconst cx (v := 0) dX3_strays_1 (by decide) ?_
  refine m_put cx (i := 0) fl_X3_53 dX3_strays_2 hm rfl rfl rfl (fun h hm => ?_)
  refine a_aload_n cx dX3_strays_5 rfl ?_
  refine m_calli cx (k3_strayMany (σ := mv σ 0 0) cx.htr hw ho.1) (lw_V q2269 q2271 qs62 q87 q2272) dn_X3_strayMany (RN.of rfl rfl rfl rfl) rfl hm rfl rfl (Nat.le_of_ble_eq_true rfl) dX3_strays_6 (Nat.zero_le _) (Nat.zero_le _) (fun h hm => ?_)
  exact a_iret cx hq dX3_strays_9 ⟨_, ⟨rfl, ⟨mv_at _ _ _, hR.v (Or.inl rfl)⟩⟩, hm⟩ (Nat.zero_le _) (Nat.zero_le _)
abbrev rm_X3_nearest : Room := { frames := 3, cells := 0, slots := 0, locals := 67 }
set_option maxHeartbeats 4000000 in
theorem k3_nearest {l : Launch} {g : GP} {ad : Nat → Nat} {σ : MS} (htr : l.stackTraces = false) {S : ST} {x y : Int32} (hR : RM S σ) (hF : WF (σ.2 1)) : MK l g ad yX3_nearest cX3_nearest 3 (some .int) rm_X3_nearest σ [.int x, .int y] (fun v σ' => QP S (qNear (σ.2 1) x y) v σ') := by
  refine MK.of (by decide +kernel) htr (Nat.le_of_ble_eq_true rfl) (L0 := [some (.ref (ad 0)), some (.int x), some (.int y)]) rfl ?_
  intro M h0 h cx _ hq hm
  obtain ⟨hw1, hw2, hw3, hw4⟩ := id hF.1
  have hw := hF.1
  have ho := hF.2.1
  refine a_aload_n cx dX3_nearest_0 rfl ?_
  refine a_iload_n cx dX3_nearest_1 rfl ?_
  refine a_iload_n cx dX3_nearest_2 rfl ?_
  refine s_calli cx (k3_isPlace cx.htr) (lw_S q2064 q2065 q87 q2066) dn_X3_isPlace (RN.of rfl rfl rfl rfl) rfl rfl (Nat.le_of_ble_eq_true rfl) dX3_nearest_3 (Nat.zero_le _) (Nat.zero_le _) ?_
  refine a_if_ne cx (tgt := 13) dX3_nearest_6 (by decide) (fun c6 => ?_) (fun c6 => ?_)
  · have p6 := bI_n0 c6
    rw [Bool.and_eq_true] at p6
    refine a_aload_n cx dX3_nearest_13 rfl ?_
    refine a_get cx fl_X3_7.g dX3_nearest_14 hm.o rfl ?_
    refine a_iconst cx (v := 1) dX3_nearest_17 (by decide) ?_
    refine a_iald cx dX3_nearest_18 hm.a1 (show (1 : Int32) = nI 1 from rfl) (by omega) (by decide) ?_
    refine AW.topi hw3 ?_
    refine a_if_ne cx (tgt := 26) dX3_nearest_19 (by decide) (fun c19 => ?_) (fun c19 => ?_)
    · have hn : nH (σ.2 1) ≠ 0 := fun q => c19 (by rw [q]; rfl)
      have eA : qNear (σ.2 1) x y = (0, oI (near (σ.2 1) x y)) := by unfold qNear; rw [if_pos p6, if_neg hn]
      refine a_iconst cx (v := 0) dX3_nearest_26 (by decide) ?_
      refine m_put cx (i := 0) fl_X3_53 dX3_nearest_27 hm rfl rfl rfl (fun h hm => ?_)
      refine a_aload_n cx dX3_nearest_30 rfl ?_
      refine a_get cx fl_X3_53.g dX3_nearest_31 hm.o rfl ?_
      refine a_if_le cx (tgt := 41) dX3_nearest_34 (by decide) (fun c34 => ?_) (fun c34 => absurd (by rw [mv_at]; decide) c34)
      refine a_aload_n cx dX3_nearest_41 rfl ?_
      refine a_iload_n cx dX3_nearest_42 rfl ?_
      refine a_iload_n cx dX3_nearest_43 rfl ?_
      refine m_calli cx (k3_nearestTo (σ := mv σ 0 0) cx.htr hw) (lw_V q2074 q2076 qs30 q87 q2077) dn_X3_nearestTo (RN.of rfl rfl rfl rfl) rfl hm rfl rfl (Nat.le_of_ble_eq_true rfl) dX3_nearest_44 (Nat.zero_le _) (Nat.zero_le _) (fun h hm => ?_)
      exact a_iret cx hq dX3_nearest_47 ⟨_, ⟨by rw [eA]; try rfl, by exact ⟨(mv_at _ _ _).trans (by rw [eA]), hR.v (Or.inl rfl)⟩⟩, hm⟩ (Nat.zero_le _) (Nat.zero_le _)
    · have hn : nH (σ.2 1) = 0 := nI_inj (by omega) (by decide) c19
      have eA : qNear (σ.2 1) x y = (2, 0) := by unfold qNear; rw [if_pos p6, if_pos hn]
      refine a_iconst cx (v := 2) dX3_nearest_22 (by decide) ?_
      refine a_goto cx (tgt := 27) dX3_nearest_23 (by decide) ?_
      refine m_put cx (i := 0) fl_X3_53 dX3_nearest_27 hm rfl rfl rfl (fun h hm => ?_)
      refine a_aload_n cx dX3_nearest_30 rfl ?_
      refine a_get cx fl_X3_53.g dX3_nearest_31 hm.o rfl ?_
      refine a_if_le cx (tgt := 41) dX3_nearest_34 (by decide) (fun c34 => absurd c34 (by rw [mv_at]; decide)) (fun c34 => ?_)
      refine a_iconst cx (v := 0) dX3_nearest_37 (by decide) ?_
      refine a_goto cx (tgt := 47) dX3_nearest_38 (by decide) ?_
      exact a_iret cx hq dX3_nearest_47 ⟨_, ⟨by rw [eA]; try rfl, by exact ⟨(mv_at _ _ _).trans (by rw [eA]), hR.v (Or.inl rfl)⟩⟩, hm⟩ (Nat.zero_le _) (Nat.zero_le _)
  · have eA : qNear (σ.2 1) x y = (1, 0) := if_neg (fun q => by have h9 := (bI_0 _).mp c6; rw [q.1, q.2] at h9; cases h9)
    refine a_iconst cx (v := 1) dX3_nearest_9 (by decide) ?_
    refine a_goto cx (tgt := 27) dX3_nearest_10 (by decide) ?_
    refine m_put cx (i := 0) fl_X3_53 dX3_nearest_27 hm rfl rfl rfl (fun h hm => ?_)
    refine a_aload_n cx dX3_nearest_30 rfl ?_
    refine a_get cx fl_X3_53.g dX3_nearest_31 hm.o rfl ?_
    refine a_if_le cx (tgt := 41) dX3_nearest_34 (by decide) (fun c34 => absurd c34 (by rw [mv_at]; decide)) (fun c34 => ?_)
    refine a_iconst cx (v := 0) dX3_nearest_37 (by decide) ?_
    refine a_goto cx (tgt := 47) dX3_nearest_38 (by decide) ?_
    exact a_iret cx hq dX3_nearest_47 ⟨_, ⟨by rw [eA]; try rfl, by exact ⟨(mv_at _ _ _).trans (by rw [eA]), hR.v (Or.inl rfl)⟩⟩, hm⟩ (Nat.zero_le _) (Nat.zero_le _)
abbrev rm_X3_dogAt : Room := { frames := 1, cells := 0, slots := 0, locals := 22 }
set_option maxHeartbeats 4000000 in
theorem k3_dogAt {l : Launch} {g : GP} {ad : Nat → Nat} {σ : MS} (htr : l.stackTraces = false) {S : ST} {u : Int32} (hR : RM S σ) (hF : WF (σ.2 1)) : MK l g ad yX3_dogAt cX3_dogAt 2 (some .int) rm_X3_dogAt σ [.int u] (fun v σ' => QP S (qDog (σ.2 1) u) v σ') := by
  refine MK.of (by decide +kernel) htr (Nat.le_of_ble_eq_true rfl) (L0 := [some (.ref (ad 0)), some (.int u)]) rfl ?_
  intro M h0 h cx _ hq hm
  obtain ⟨hw1, hw2, hw3, hw4⟩ := id hF.1
  have hw := hF.1
  have ho := hF.2.1
  refine a_aload_n cx dX3_dogAt_0 rfl ?_
  refine a_iload_n cx dX3_dogAt_1 rfl ?_
  refine a_iconst cx (v := 0) dX3_dogAt_2 (by decide) ?_
  refine a_iconst cx (v := 2) dX3_dogAt_3 (by decide) ?_
  refine s_calli cx (k3_in cx.htr) (lw_S q2067 q2068 q87 q2069) dn_X3_in (RN.of rfl rfl rfl rfl) rfl rfl (Nat.le_of_ble_eq_true rfl) dX3_dogAt_4 (Nat.zero_le _) (Nat.zero_le _) ?_
  refine a_if_eq cx (tgt := 14) dX3_dogAt_7 (by decide) (fun c7 => ?_) (fun c7 => ?_)
  · have eA : qDog (σ.2 1) u = (1, 0) := if_neg (fun q => by have h9 := (bI_0 _).mp c7; rw [q] at h9; cases h9)
    refine a_iconst cx (v := 1) dX3_dogAt_14 (by decide) ?_
    refine m_put cx (i := 0) fl_X3_53 dX3_dogAt_15 hm rfl rfl rfl (fun h hm => ?_)
    refine a_aload_n cx dX3_dogAt_18 rfl ?_
    refine a_get cx fl_X3_53.g dX3_dogAt_19 hm.o rfl ?_
    refine a_if_le cx (tgt := 29) dX3_dogAt_22 (by decide) (fun c22 => absurd c22 (by rw [mv_at]; decide)) (fun c22 => ?_)
    refine a_iconst cx (v := 0) dX3_dogAt_25 (by decide) ?_
    refine a_goto cx (tgt := 38) dX3_dogAt_26 (by decide) ?_
    exact a_iret cx hq dX3_dogAt_38 ⟨_, ⟨by rw [eA]; try rfl, by exact ⟨(mv_at _ _ _).trans (by rw [eA]), hR.v (Or.inl rfl)⟩⟩, hm⟩ (Nat.zero_le _) (Nat.zero_le _)
  · have p0 := bI_n0 c7
    obtain ⟨d, hd, rfl⟩ := nI_of2 (M := 2) (n := 2) (by decide) (show ¬ u < 0 from Int32.not_lt.mpr ((inR_iff _ _ _).mp p0).1) ((inR_iff _ _ _).mp p0).2
    have eA : qDog (σ.2 1) (nI d) = (0, (σ.2 1) (6 + d)) := by rw [qDog, if_pos p0, oN_nI (by omega)]
    refine a_iconst cx (v := 0) dX3_dogAt_10 (by decide) ?_
    refine a_goto cx (tgt := 15) dX3_dogAt_11 (by decide) ?_
    refine m_put cx (i := 0) fl_X3_53 dX3_dogAt_15 hm rfl rfl rfl (fun h hm => ?_)
    refine a_aload_n cx dX3_dogAt_18 rfl ?_
    refine a_get cx fl_X3_53.g dX3_dogAt_19 hm.o rfl ?_
    refine a_if_le cx (tgt := 29) dX3_dogAt_22 (by decide) (fun c22 => ?_) (fun c22 => absurd (by rw [mv_at]; decide) c22)
    refine a_aload_n cx dX3_dogAt_29 rfl ?_
    refine a_get cx fl_X3_7.g dX3_dogAt_30 hm.o rfl ?_
    refine a_bipush cx (v := 6) dX3_dogAt_33 (by decide) ?_
    refine a_iload_n cx dX3_dogAt_35 rfl ?_
    refine a_iadd cx dX3_dogAt_36 ?_
    refine a_iald cx dX3_dogAt_37 hm.a1 (ix6 _) (by omega) (by decide) ?_
    exact a_iret cx hq dX3_dogAt_38 ⟨_, ⟨by rw [eA]; try rfl, by exact ⟨(mv_at _ _ _).trans (by rw [eA]), hR.v (Or.inl rfl)⟩⟩, hm⟩ (Nat.zero_le _) (Nat.zero_le _)
abbrev rm_X3_apart : Room := { frames := 2, cells := 0, slots := 0, locals := 43 }
set_option maxHeartbeats 4000000 in
theorem k3_apart {l : Launch} {g : GP} {ad : Nat → Nat} {σ : MS} (htr : l.stackTraces = false) {S : ST} {u w : Int32} (hR : RM S σ) (hF : WF (σ.2 1)) : MK l g ad yX3_apart cX3_apart 3 (some .int) rm_X3_apart σ [.int u, .int w] (fun v σ' => QP S (qApart (σ.2 1) u w) v σ') := by
  refine MK.of (by decide +kernel) htr (Nat.le_of_ble_eq_true rfl) (L0 := [some (.ref (ad 0)), some (.int u), some (.int w)]) rfl ?_
  intro M h0 h cx _ hq hm
  obtain ⟨hw1, hw2, hw3, hw4⟩ := id hF.1
  have hw := hF.1
  have ho := hF.2.1
  refine a_aload_n cx dX3_apart_0 rfl ?_
  refine a_aload_n cx dX3_apart_1 rfl ?_
  refine a_iload_n cx dX3_apart_2 rfl ?_
  refine m_calli cx (k3_isHut cx.htr hw) (lw_V q2133 q2135 qs41 q87 q2136) dn_X3_isHut (RN.of rfl rfl rfl rfl) rfl hm rfl rfl (Nat.le_of_ble_eq_true rfl) dX3_apart_3 (Nat.zero_le _) (Nat.zero_le _) (fun h hm => ?_)
  refine a_if_eq cx (tgt := 21) dX3_apart_6 (by decide) (fun c6 => ?_) (fun c6 => ?_)
  · have eA : qApart (σ.2 1) u w = (1, 0) := if_neg (fun q => by have h9 := (bI_0 _).mp c6; rw [q.1] at h9; cases h9)
    refine a_iconst cx (v := 1) dX3_apart_21 (by decide) ?_
    refine m_put cx (i := 0) fl_X3_53 dX3_apart_22 hm rfl rfl rfl (fun h hm => ?_)
    refine a_aload_n cx dX3_apart_25 rfl ?_
    refine a_get cx fl_X3_53.g dX3_apart_26 hm.o rfl ?_
    refine a_if_le cx (tgt := 36) dX3_apart_29 (by decide) (fun c29 => absurd c29 (by rw [mv_at]; decide)) (fun c29 => ?_)
    refine a_iconst cx (v := 0) dX3_apart_32 (by decide) ?_
    refine a_goto cx (tgt := 59) dX3_apart_33 (by decide) ?_
    exact a_iret cx hq dX3_apart_59 ⟨_, ⟨by rw [eA]; try rfl, by exact ⟨(mv_at _ _ _).trans (by rw [eA]), hR.v (Or.inl rfl)⟩⟩, hm⟩ (Nat.zero_le _) (Nat.zero_le _)
  · have p6 := bI_n0 c6
    obtain ⟨i, hi, rfl⟩ := (isIx_iff (by omega)).mp p6
    refine a_aload_n cx dX3_apart_9 rfl ?_
    refine a_iload_n cx dX3_apart_10 rfl ?_
    refine m_calli cx (k3_isHut cx.htr hw) (lw_V q2133 q2135 qs41 q87 q2136) dn_X3_isHut (RN.of rfl rfl rfl rfl) rfl hm rfl rfl (Nat.le_of_ble_eq_true rfl) dX3_apart_11 (Nat.zero_le _) (Nat.zero_le _) (fun h hm => ?_)
    refine a_if_eq cx (tgt := 21) dX3_apart_14 (by decide) (fun c14 => ?_) (fun c14 => ?_)
    · have eA : qApart (σ.2 1) (nI i) w = (1, 0) := if_neg (fun q => by have h9 := (bI_0 _).mp c14; rw [q.2] at h9; cases h9)
      refine a_iconst cx (v := 1) dX3_apart_21 (by decide) ?_
      refine m_put cx (i := 0) fl_X3_53 dX3_apart_22 hm rfl rfl rfl (fun h hm => ?_)
      refine a_aload_n cx dX3_apart_25 rfl ?_
      refine a_get cx fl_X3_53.g dX3_apart_26 hm.o rfl ?_
      refine a_if_le cx (tgt := 36) dX3_apart_29 (by decide) (fun c29 => absurd c29 (by rw [mv_at]; decide)) (fun c29 => ?_)
      refine a_iconst cx (v := 0) dX3_apart_32 (by decide) ?_
      refine a_goto cx (tgt := 59) dX3_apart_33 (by decide) ?_
      exact a_iret cx hq dX3_apart_59 ⟨_, ⟨by rw [eA]; try rfl, by exact ⟨(mv_at _ _ _).trans (by rw [eA]), hR.v (Or.inl rfl)⟩⟩, hm⟩ (Nat.zero_le _) (Nat.zero_le _)
    · have p14 := bI_n0 c14
      obtain ⟨j, hj, rfl⟩ := (isIx_iff (by omega)).mp p14
      have eA : qApart (σ.2 1) (nI i) (nI j) = (0, fTo (σ.2 1) ((σ.2 1) (81 + i)) ((σ.2 1) (87 + i)) j) := by rw [qApart, if_pos ⟨p6, p14⟩, oN_nI (by omega), oN_nI (by omega)]
      refine a_iconst cx (v := 0) dX3_apart_17 (by decide) ?_
      refine a_goto cx (tgt := 22) dX3_apart_18 (by decide) ?_
      refine m_put cx (i := 0) fl_X3_53 dX3_apart_22 hm rfl rfl rfl (fun h hm => ?_)
      refine a_aload_n cx dX3_apart_25 rfl ?_
      refine a_get cx fl_X3_53.g dX3_apart_26 hm.o rfl ?_
      refine a_if_le cx (tgt := 36) dX3_apart_29 (by decide) (fun c29 => ?_) (fun c29 => absurd (by rw [mv_at]; decide) c29)
      refine a_aload_n cx dX3_apart_36 rfl ?_
      refine a_aload_n cx dX3_apart_37 rfl ?_
      refine a_get cx fl_X3_7.g dX3_apart_38 hm.o rfl ?_
      refine a_bipush cx (v := 81) dX3_apart_41 (by decide) ?_
      refine a_iload_n cx dX3_apart_43 rfl ?_
      refine a_iadd cx dX3_apart_44 ?_
      refine a_iald cx dX3_apart_45 hm.a1 (ix4 _) (by omega) (by decide) ?_
      refine a_aload_n cx dX3_apart_46 rfl ?_
      refine a_get cx fl_X3_7.g dX3_apart_47 hm.o rfl ?_
      refine a_bipush cx (v := 87) dX3_apart_50 (by decide) ?_
      refine a_iload_n cx dX3_apart_52 rfl ?_
      refine a_iadd cx dX3_apart_53 ?_
      refine a_iald cx dX3_apart_54 hm.a1 (ix5 _) (by omega) (by decide) ?_
      refine a_iload_n cx dX3_apart_55 rfl ?_
      refine m_calli cx (k3_farTo (σ := mv σ 0 0) cx.htr (by omega)) (lw_V q2078 q2080 qs31 q87 q2081) dn_X3_farTo (RN.of rfl rfl rfl rfl) rfl hm rfl rfl (Nat.le_of_ble_eq_true rfl) dX3_apart_56 (Nat.zero_le _) (Nat.zero_le _) (fun h hm => ?_)
      exact a_iret cx hq dX3_apart_59 ⟨_, ⟨by rw [eA]; try rfl, by exact ⟨(mv_at _ _ _).trans (by rw [eA]), hR.v (Or.inl rfl)⟩⟩, hm⟩ (Nat.zero_le _) (Nat.zero_le _)
abbrev rm_X3_farthest : Room := { frames := 3, cells := 0, slots := 0, locals := 65 }
set_option maxHeartbeats 4000000 in
theorem k3_farthest {l : Launch} {g : GP} {ad : Nat → Nat} {σ : MS} (htr : l.stackTraces = false) {jj : Nat} (hj : jj < 6) (hw : WS (σ.2 1)) : MKi l g ad yX3_farthest cX3_farthest 4 (some .int) rm_X3_farthest σ [.int (nI jj)] (oI (fth (σ.2 1) jj (nS (σ.2 1)))) (σ) := by
  refine MK.of (by decide +kernel) htr (Nat.le_of_ble_eq_true rfl) (L0 := [some (.ref (ad 0)), some (.int (nI jj)), none, none]) rfl ?_
  intro M h0 h cx _ hq hm
  obtain ⟨hw1, hw2, hw3, hw4⟩ := id hw
  refine a_iconst cx (v := -1) dX3_farthest_0 (by decide) ?_
  refine a_istore_n cx dX3_farthest_1 (Nat.le_of_ble_eq_true rfl) rfl ?_
  refine a_iconst cx (v := 0) dX3_farthest_2 (by decide) ?_
  refine a_istore_n cx dX3_farthest_3 (Nat.le_of_ble_eq_true rfl) rfl ?_
  have loop : ∀ (j k : Nat) (h : AH), k ≤ nS (σ.2 1) → nS (σ.2 1) < k + j → MSt g ad h0 (σ) h → AW g M 0 0 4 [some (.ref (ad 0)), some (.int (nI jj)), some (.int (oI (fth (σ.2 1) jj k))), some (.int (nI k))] [] h := by
    intro j
    induction j with
    | zero => intro k h h1 h2; omega
    | succ j ih =>
      intro k h h1 h2 hm
      refine a_iload_n cx dX3_farthest_4 rfl ?_
      refine a_aload_n cx dX3_farthest_5 rfl ?_
      refine a_get cx fl_X3_7.g dX3_farthest_6 hm.o rfl ?_
      refine a_iconst cx (v := 0) dX3_farthest_9 (by decide) ?_
      refine a_iald cx dX3_farthest_10 hm.a1 (show (0 : Int32) = nI 0 from rfl) (by omega) (by decide) ?_
      refine AW.topi hw1 ?_
      refine a_icmp_ge cx (tgt := 55) dX3_farthest_11 (by decide) (fun c11 => ?_) (fun c11 => ?_)
      · have d11 := le_nI c11 (by omega) (by omega)
        have e11 : k = nS (σ.2 1) := by omega
        subst e11
        refine a_iload_n cx dX3_farthest_55 rfl ?_
        exact a_iret cx hq dX3_farthest_56 ⟨_, ⟨rfl, rfl⟩, hm⟩ (Nat.zero_le _) (Nat.zero_le _)
      · have d11 := nle_nI c11 (by omega) (by omega)
        refine a_aload_n cx dX3_farthest_14 rfl ?_
        refine a_get cx fl_X3_7.g dX3_farthest_15 hm.o rfl ?_
        refine a_bipush cx (v := 63) dX3_farthest_18 (by decide) ?_
        refine a_iload_n cx dX3_farthest_20 rfl ?_
        refine a_iadd cx dX3_farthest_21 ?_
        refine a_iald cx dX3_farthest_22 hm.a1 (ix3 _) (by omega) (by decide) ?_
        refine a_iload_n cx dX3_farthest_23 rfl ?_
        refine a_icmp_ne cx (tgt := 49) dX3_farthest_24 (by decide) (fun c24 => ?_) (fun c24 => ?_)
        · have r : fth (σ.2 1) jj (k + 1) = fth (σ.2 1) jj k := by rw [fth, if_neg c24]
          refine a_iincN cx dX3_farthest_49 rfl (Nat.le_of_ble_eq_true rfl) rfl ?_
          refine a_goto cx (tgt := 4) dX3_farthest_52 (by decide) ?_
          have q9 := ih (k + 1) h (by omega) (by omega) hm
          rw [r] at q9
          exact q9
        · refine a_iload_n cx dX3_farthest_27 rfl ?_
          refine a_iconst cx (v := -1) dX3_farthest_28 (by decide) ?_
          refine a_icmp_eq cx (tgt := 47) dX3_farthest_29 (by decide) (fun c29 => ?_) (fun c29 => ?_)
          · have hn : fth (σ.2 1) jj k = none := (oI_m1 (fun b hb => by have := fth_lt hb; omega)).mp c29
            have r : fth (σ.2 1) jj (k + 1) = some k := by rw [fth, if_pos c24, hn]
            refine a_iload_n cx dX3_farthest_47 rfl ?_
            refine a_istore_n cx dX3_farthest_48 (Nat.le_of_ble_eq_true rfl) rfl ?_
            refine a_iincN cx dX3_farthest_49 rfl (Nat.le_of_ble_eq_true rfl) rfl ?_
            refine a_goto cx (tgt := 4) dX3_farthest_52 (by decide) ?_
            have q9 := ih (k + 1) h (by omega) (by omega) hm
            rw [r] at q9
            exact q9
          · obtain ⟨b, hb⟩ : ∃ b, fth (σ.2 1) jj k = some b := by
              cases hq : fth (σ.2 1) jj k with
              | none => rw [hq] at c29; exact absurd rfl c29
              | some b => exact ⟨b, rfl⟩
            have hbk := fth_lt hb
            refine a_aload_n cx dX3_farthest_32 rfl ?_
            refine a_iload_n cx dX3_farthest_33 rfl ?_
            refine a_iload_n cx dX3_farthest_34 rfl ?_
            refine m_calli cx (k3_far cx.htr (by omega) (by omega)) (lw_V q2161 q2163 qs45 q87 q2164) dn_X3_far (RN.of rfl rfl rfl rfl) rfl hm rfl rfl (Nat.le_of_ble_eq_true rfl) dX3_farthest_35 (Nat.zero_le _) (Nat.zero_le _) (fun h hm => ?_)
            refine a_aload_n cx dX3_farthest_38 rfl ?_
            refine a_iload_n cx dX3_farthest_39 rfl ?_
            refine AW.topi (show oI (fth (σ.2 1) jj k) = nI b by rw [hb]; rfl) ?_
            refine a_iload_n cx dX3_farthest_40 rfl ?_
            refine m_calli cx (k3_far cx.htr (by omega) (by omega)) (lw_V q2161 q2163 qs45 q87 q2164) dn_X3_far (RN.of rfl rfl rfl rfl) rfl hm rfl rfl (Nat.le_of_ble_eq_true rfl) dX3_farthest_41 (Nat.zero_le _) (Nat.zero_le _) (fun h hm => ?_)
            refine a_icmp_le cx (tgt := 49) dX3_farthest_44 (by decide) (fun c44 => ?_) (fun c44 => ?_)
            · have r : fth (σ.2 1) jj (k + 1) = fth (σ.2 1) jj k := by rw [fth, if_pos c24, hb]; dsimp only; rw [if_neg (Int32.not_lt.mpr c44)]
              refine a_iincN cx dX3_farthest_49 rfl (Nat.le_of_ble_eq_true rfl) rfl ?_
              refine a_goto cx (tgt := 4) dX3_farthest_52 (by decide) ?_
              have q9 := ih (k + 1) h (by omega) (by omega) hm
              rw [r] at q9
              exact q9
            · have r : fth (σ.2 1) jj (k + 1) = some k := by rw [fth, if_pos c24, hb]; dsimp only; rw [if_pos (Int32.not_le.mp c44)]
              refine a_iload_n cx dX3_farthest_47 rfl ?_
              refine a_istore_n cx dX3_farthest_48 (Nat.le_of_ble_eq_true rfl) rfl ?_
              refine a_iincN cx dX3_farthest_49 rfl (Nat.le_of_ble_eq_true rfl) rfl ?_
              refine a_goto cx (tgt := 4) dX3_farthest_52 (by decide) ?_
              have q9 := ih (k + 1) h (by omega) (by omega) hm
              rw [r] at q9
              exact q9
  exact loop (nS (σ.2 1) + 1 - 0) 0 h (by omega) (by omega) hm
abbrev rm_X3_dogsAt : Room := { frames := 0, cells := 0, slots := 0, locals := 0 }
set_option maxHeartbeats 4000000 in
theorem k3_dogsAt {l : Launch} {g : GP} {ad : Nat → Nat} {σ : MS} (htr : l.stackTraces = false) {u : Int32} : MKi l g ad yX3_dogsAt cX3_dogsAt 4 (some .int) rm_X3_dogsAt σ [.int u] (nI (dgs (σ.2 1) u 3)) (σ) := by
  refine MK.of (by decide +kernel) htr (Nat.le_of_ble_eq_true rfl) (L0 := [some (.ref (ad 0)), some (.int u), none, none]) rfl ?_
  intro M h0 h cx _ hq hm
  refine a_iconst cx (v := 0) dX3_dogsAt_0 (by decide) ?_
  refine a_istore_n cx dX3_dogsAt_1 (Nat.le_of_ble_eq_true rfl) rfl ?_
  refine a_iconst cx (v := 0) dX3_dogsAt_2 (by decide) ?_
  refine a_istore_n cx dX3_dogsAt_3 (Nat.le_of_ble_eq_true rfl) rfl ?_
  have loop : ∀ (j k : Nat) (h : AH), k ≤ 3 → 3 < k + j → MSt g ad h0 (σ) h → AW g M 0 0 4 [some (.ref (ad 0)), some (.int u), some (.int (nI (dgs (σ.2 1) u k))), some (.int (nI k))] [] h := by
    intro j
    induction j with
    | zero => intro k h h1 h2; omega
    | succ j ih =>
      intro k h h1 h2 hm
      refine a_iload_n cx dX3_dogsAt_4 rfl ?_
      refine a_iconst cx (v := 3) dX3_dogsAt_5 (by decide) ?_
      refine a_icmp_ge cx (tgt := 36) dX3_dogsAt_6 (by decide) (fun c6 => ?_) (fun c6 => ?_)
      · have d6 := le_nI (a := 3) c6 (by omega) (by omega)
        have e6 : k = 3 := by omega
        subst e6
        refine a_iload_n cx dX3_dogsAt_36 rfl ?_
        exact a_iret cx hq dX3_dogsAt_37 ⟨_, ⟨rfl, rfl⟩, hm⟩ (Nat.zero_le _) (Nat.zero_le _)
      · have d6 := nle_nI (a := 3) c6 (by omega) (by omega)
        refine a_iload_n cx dX3_dogsAt_9 rfl ?_
        refine a_aload_n cx dX3_dogsAt_10 rfl ?_
        refine a_get cx fl_X3_7.g dX3_dogsAt_11 hm.o rfl ?_
        refine a_bipush cx (v := 6) dX3_dogsAt_14 (by decide) ?_
        refine a_iload_n cx dX3_dogsAt_16 rfl ?_
        refine a_iadd cx dX3_dogsAt_17 ?_
        refine a_iald cx dX3_dogsAt_18 hm.a1 (ix6 _) (by omega) (by decide) ?_
        refine a_iload_n cx dX3_dogsAt_19 rfl ?_
        refine a_icmp_ne cx (tgt := 27) dX3_dogsAt_20 (by decide) (fun c20 => ?_) (fun c20 => ?_)
        · have r : nI (dgs (σ.2 1) u k) + 0 = nI (dgs (σ.2 1) u (k + 1)) := by rw [dgs, if_neg c20]; exact nI_add _ 0
          refine a_iconst cx (v := 0) dX3_dogsAt_27 (by decide) ?_
          refine a_iadd cx dX3_dogsAt_28 ?_
          refine AW.topi r ?_
          refine a_istore_n cx dX3_dogsAt_29 (Nat.le_of_ble_eq_true rfl) rfl ?_
          refine a_iincN cx dX3_dogsAt_30 rfl (Nat.le_of_ble_eq_true rfl) rfl ?_
          refine a_goto cx (tgt := 4) dX3_dogsAt_33 (by decide) ?_
          exact ih (k + 1) h (by omega) (by omega) hm
        · have r : nI (dgs (σ.2 1) u k) + 1 = nI (dgs (σ.2 1) u (k + 1)) := by rw [dgs, if_pos c20]; exact nI_add _ 1
          refine a_iconst cx (v := 1) dX3_dogsAt_23 (by decide) ?_
          refine a_goto cx (tgt := 28) dX3_dogsAt_24 (by decide) ?_
          refine a_iadd cx dX3_dogsAt_28 ?_
          refine AW.topi r ?_
          refine a_istore_n cx dX3_dogsAt_29 (Nat.le_of_ble_eq_true rfl) rfl ?_
          refine a_iincN cx dX3_dogsAt_30 rfl (Nat.le_of_ble_eq_true rfl) rfl ?_
          refine a_goto cx (tgt := 4) dX3_dogsAt_33 (by decide) ?_
          exact ih (k + 1) h (by omega) (by omega) hm
  exact loop (3 + 1 - 0) 0 h (by omega) (by omega) hm
abbrev rm_X3_allWeights : Room := { frames := 0, cells := 0, slots := 0, locals := 0 }
set_option maxHeartbeats 4000000 in
theorem k3_allWeights {l : Launch} {g : GP} {ad : Nat → Nat} {σ : MS} (htr : l.stackTraces = false) (hw : WS (σ.2 1)) : MKi l g ad yX3_allWeights cX3_allWeights 3 (some .int) rm_X3_allWeights σ [] (allW (σ.2 1) (nS (σ.2 1))) (σ) := by
  refine MK.of (by decide +kernel) htr (Nat.le_of_ble_eq_true rfl) (L0 := [some (.ref (ad 0)), none, none]) rfl ?_
  intro M h0 h cx _ hq hm
  obtain ⟨hw1, hw2, hw3, hw4⟩ := id hw
  refine a_iconst cx (v := 0) dX3_allWeights_0 (by decide) ?_
  refine a_istore_n cx dX3_allWeights_1 (Nat.le_of_ble_eq_true rfl) rfl ?_
  refine a_iconst cx (v := 0) dX3_allWeights_2 (by decide) ?_
  refine a_istore_n cx dX3_allWeights_3 (Nat.le_of_ble_eq_true rfl) rfl ?_
  have loop : ∀ (j k : Nat) (h : AH), k ≤ nS (σ.2 1) → nS (σ.2 1) < k + j → MSt g ad h0 (σ) h → AW g M 0 0 4 [some (.ref (ad 0)), some (.int (allW (σ.2 1) k)), some (.int (nI k))] [] h := by
    intro j
    induction j with
    | zero => intro k h h1 h2; omega
    | succ j ih =>
      intro k h h1 h2 hm
      refine a_iload_n cx dX3_allWeights_4 rfl ?_
      refine a_aload_n cx dX3_allWeights_5 rfl ?_
      refine a_get cx fl_X3_7.g dX3_allWeights_6 hm.o rfl ?_
      refine a_iconst cx (v := 0) dX3_allWeights_9 (by decide) ?_
      refine a_iald cx dX3_allWeights_10 hm.a1 (show (0 : Int32) = nI 0 from rfl) (by omega) (by decide) ?_
      refine AW.topi hw1 ?_
      refine a_icmp_ge cx (tgt := 32) dX3_allWeights_11 (by decide) (fun c11 => ?_) (fun c11 => ?_)
      · have d11 := le_nI c11 (by omega) (by omega)
        have e11 : k = nS (σ.2 1) := by omega
        subst e11
        refine a_iload_n cx dX3_allWeights_32 rfl ?_
        exact a_iret cx hq dX3_allWeights_33 ⟨_, ⟨rfl, rfl⟩, hm⟩ (Nat.zero_le _) (Nat.zero_le _)
      · have d11 := nle_nI c11 (by omega) (by omega)
        refine a_iload_n cx dX3_allWeights_14 rfl ?_
        refine a_aload_n cx dX3_allWeights_15 rfl ?_
        refine a_get cx fl_X3_7.g dX3_allWeights_16 hm.o rfl ?_
        refine a_bipush cx (v := 45) dX3_allWeights_19 (by decide) ?_
        refine a_iload_n cx dX3_allWeights_21 rfl ?_
        refine a_iadd cx dX3_allWeights_22 ?_
        refine a_iald cx dX3_allWeights_23 hm.a1 (ix2 _) (by omega) (by decide) ?_
        refine a_iadd cx dX3_allWeights_24 ?_
        refine a_istore_n cx dX3_allWeights_25 (Nat.le_of_ble_eq_true rfl) rfl ?_
        refine a_iincN cx dX3_allWeights_26 rfl (Nat.le_of_ble_eq_true rfl) rfl ?_
        refine a_goto cx (tgt := 4) dX3_allWeights_29 (by decide) ?_
        exact ih (k + 1) h (by omega) (by omega) hm
  exact loop (nS (σ.2 1) + 1 - 0) 0 h (by omega) (by omega) hm
abbrev rm_X3_emptyHuts : Room := { frames := 1, cells := 0, slots := 0, locals := 23 }
set_option maxHeartbeats 4000000 in
theorem k3_emptyHuts {l : Launch} {g : GP} {ad : Nat → Nat} {σ : MS} (htr : l.stackTraces = false) (hw : WS (σ.2 1)) : MKi l g ad yX3_emptyHuts cX3_emptyHuts 3 (some .int) rm_X3_emptyHuts σ [] (nI (emp (σ.2 1) (nH (σ.2 1)))) (σ) := by
  refine MK.of (by decide +kernel) htr (Nat.le_of_ble_eq_true rfl) (L0 := [some (.ref (ad 0)), none, none]) rfl ?_
  intro M h0 h cx _ hq hm
  obtain ⟨hw1, hw2, hw3, hw4⟩ := id hw
  refine a_iconst cx (v := 0) dX3_emptyHuts_0 (by decide) ?_
  refine a_istore_n cx dX3_emptyHuts_1 (Nat.le_of_ble_eq_true rfl) rfl ?_
  refine a_iconst cx (v := 0) dX3_emptyHuts_2 (by decide) ?_
  refine a_istore_n cx dX3_emptyHuts_3 (Nat.le_of_ble_eq_true rfl) rfl ?_
  have loop : ∀ (j k : Nat) (h : AH), k ≤ nH (σ.2 1) → nH (σ.2 1) < k + j → MSt g ad h0 (σ) h → AW g M 0 0 4 [some (.ref (ad 0)), some (.int (nI (emp (σ.2 1) k))), some (.int (nI k))] [] h := by
    intro j
    induction j with
    | zero => intro k h h1 h2; omega
    | succ j ih =>
      intro k h h1 h2 hm
      refine a_iload_n cx dX3_emptyHuts_4 rfl ?_
      refine a_aload_n cx dX3_emptyHuts_5 rfl ?_
      refine a_get cx fl_X3_7.g dX3_emptyHuts_6 hm.o rfl ?_
      refine a_iconst cx (v := 1) dX3_emptyHuts_9 (by decide) ?_
      refine a_iald cx dX3_emptyHuts_10 hm.a1 (show (1 : Int32) = nI 1 from rfl) (by omega) (by decide) ?_
      refine AW.topi hw3 ?_
      refine a_icmp_ge cx (tgt := 36) dX3_emptyHuts_11 (by decide) (fun c11 => ?_) (fun c11 => ?_)
      · have d11 := le_nI c11 (by omega) (by omega)
        have e11 : k = nH (σ.2 1) := by omega
        subst e11
        refine a_iload_n cx dX3_emptyHuts_36 rfl ?_
        exact a_iret cx hq dX3_emptyHuts_37 ⟨_, ⟨rfl, rfl⟩, hm⟩ (Nat.zero_le _) (Nat.zero_le _)
      · have d11 := nle_nI c11 (by omega) (by omega)
        refine a_iload_n cx dX3_emptyHuts_14 rfl ?_
        refine a_aload_n cx dX3_emptyHuts_15 rfl ?_
        refine a_iload_n cx dX3_emptyHuts_16 rfl ?_
        refine m_calli cx (k3_flock cx.htr hw) (lw_V q2137 q2139 qs42 q87 q2140) dn_X3_flock (RN.of rfl rfl rfl rfl) rfl hm rfl rfl (Nat.le_of_ble_eq_true rfl) dX3_emptyHuts_17 (Nat.zero_le _) (Nat.zero_le _) (fun h hm => ?_)
        refine a_if_ne cx (tgt := 27) dX3_emptyHuts_20 (by decide) (fun c20 => ?_) (fun c20 => ?_)
        · have hc9 : cnt (σ.2 1) (nI k) (nS (σ.2 1)) ≠ 0 := fun q => c20 (by rw [q]; rfl)
          have r : nI (emp (σ.2 1) k) + 0 = nI (emp (σ.2 1) (k + 1)) := by rw [emp, if_neg hc9]; exact nI_add _ 0
          refine a_iconst cx (v := 0) dX3_emptyHuts_27 (by decide) ?_
          refine a_iadd cx dX3_emptyHuts_28 ?_
          refine AW.topi r ?_
          refine a_istore_n cx dX3_emptyHuts_29 (Nat.le_of_ble_eq_true rfl) rfl ?_
          refine a_iincN cx dX3_emptyHuts_30 rfl (Nat.le_of_ble_eq_true rfl) rfl ?_
          refine a_goto cx (tgt := 4) dX3_emptyHuts_33 (by decide) ?_
          exact ih (k + 1) h (by omega) (by omega) hm
        · have hc9 : cnt (σ.2 1) (nI k) (nS (σ.2 1)) = 0 := by
            have := cnt_le (σ.2 1) (nI k) (nS (σ.2 1))
            exact nI_inj (by omega) (by decide) c20
          have r : nI (emp (σ.2 1) k) + 1 = nI (emp (σ.2 1) (k + 1)) := by rw [emp, if_pos hc9]; exact nI_add _ 1
          refine a_iconst cx (v := 1) dX3_emptyHuts_23 (by decide) ?_
          refine a_goto cx (tgt := 28) dX3_emptyHuts_24 (by decide) ?_
          refine a_iadd cx dX3_emptyHuts_28 ?_
          refine AW.topi r ?_
          refine a_istore_n cx dX3_emptyHuts_29 (Nat.le_of_ble_eq_true rfl) rfl ?_
          refine a_iincN cx dX3_emptyHuts_30 rfl (Nat.le_of_ble_eq_true rfl) rfl ?_
          refine a_goto cx (tgt := 4) dX3_emptyHuts_33 (by decide) ?_
          exact ih (k + 1) h (by omega) (by omega) hm
  exact loop (nH (σ.2 1) + 1 - 0) 0 h (by omega) (by omega) hm
abbrev rm_X3_isAhead : Room := { frames := 1, cells := 0, slots := 0, locals := 23 }
set_option maxHeartbeats 4000000 in
theorem k3_isAhead {l : Launch} {g : GP} {ad : Nat → Nat} {σ : MS} (htr : l.stackTraces = false) {i j : Nat} (hi : i < 6) (hj : j < 6) (hw : WS (σ.2 1)) : MKi l g ad yX3_isAhead cX3_isAhead 3 (some .boolean) rm_X3_isAhead σ [.int (nI i), .int (nI j)] (bI (ahead (σ.2 1) i j)) (σ) := by
  refine MK.of (by decide +kernel) htr (Nat.le_of_ble_eq_true rfl) (L0 := [some (.ref (ad 0)), some (.int (nI i)), some (.int (nI j))]) rfl ?_
  intro M h0 h cx _ hq hm
  obtain ⟨hw1, hw2, hw3, hw4⟩ := id hw
  refine a_aload_n cx dX3_isAhead_0 rfl ?_
  refine a_iload_n cx dX3_isAhead_1 rfl ?_
  refine m_calli cx (k3_weights cx.htr hw) (lw_V q2177 q2179 qs48 q87 q2180) dn_X3_weights (RN.of rfl rfl rfl rfl) rfl hm rfl rfl (Nat.le_of_ble_eq_true rfl) dX3_isAhead_2 (Nat.zero_le _) (Nat.zero_le _) (fun h hm => ?_)
  refine a_aload_n cx dX3_isAhead_5 rfl ?_
  refine a_iload_n cx dX3_isAhead_6 rfl ?_
  refine m_calli cx (k3_weights cx.htr hw) (lw_V q2177 q2179 qs48 q87 q2180) dn_X3_weights (RN.of rfl rfl rfl rfl) rfl hm rfl rfl (Nat.le_of_ble_eq_true rfl) dX3_isAhead_7 (Nat.zero_le _) (Nat.zero_le _) (fun h hm => ?_)
  refine a_icmp_eq cx (tgt := 32) dX3_isAhead_10 (by decide) (fun c10 => ?_) (fun c10 => ?_)
  · have b1 := cnt_le (σ.2 1) (nI i) (nS (σ.2 1))
    have b2 := cnt_le (σ.2 1) (nI j) (nS (σ.2 1))
    refine a_aload_n cx dX3_isAhead_32 rfl ?_
    refine a_iload_n cx dX3_isAhead_33 rfl ?_
    refine m_calli cx (k3_flock cx.htr hw) (lw_V q2137 q2139 qs42 q87 q2140) dn_X3_flock (RN.of rfl rfl rfl rfl) rfl hm rfl rfl (Nat.le_of_ble_eq_true rfl) dX3_isAhead_34 (Nat.zero_le _) (Nat.zero_le _) (fun h hm => ?_)
    refine a_aload_n cx dX3_isAhead_37 rfl ?_
    refine a_iload_n cx dX3_isAhead_38 rfl ?_
    refine m_calli cx (k3_flock cx.htr hw) (lw_V q2137 q2139 qs42 q87 q2140) dn_X3_flock (RN.of rfl rfl rfl rfl) rfl hm rfl rfl (Nat.le_of_ble_eq_true rfl) dX3_isAhead_39 (Nat.zero_le _) (Nat.zero_le _) (fun h hm => ?_)
    refine a_icmp_lt cx (tgt := 63) dX3_isAhead_42 (by decide) (fun c42 => ?_) (fun c42 => ?_)
    · have d42 := lt_nI c42 (by omega) (by omega)
      have r : (1 : Int32) = bI (ahead (σ.2 1) i j) := by unfold ahead; rw [if_pos c10, bI_t (decide_eq_true (Or.inl d42))]
      refine a_iconst cx (v := 1) dX3_isAhead_63 (by decide) ?_
      refine a_goto cx (tgt := 68) dX3_isAhead_64 (by decide) ?_
      exact a_zret cx hq dX3_isAhead_68 rfl ⟨_, ⟨by rw [r], rfl⟩, hm⟩ (Nat.zero_le _) (Nat.zero_le _)
    · have d42 := nlt_nI c42 (by omega) (by omega)
      refine a_aload_n cx dX3_isAhead_45 rfl ?_
      refine a_iload_n cx dX3_isAhead_46 rfl ?_
      refine m_calli cx (k3_flock cx.htr hw) (lw_V q2137 q2139 qs42 q87 q2140) dn_X3_flock (RN.of rfl rfl rfl rfl) rfl hm rfl rfl (Nat.le_of_ble_eq_true rfl) dX3_isAhead_47 (Nat.zero_le _) (Nat.zero_le _) (fun h hm => ?_)
      refine a_aload_n cx dX3_isAhead_50 rfl ?_
      refine a_iload_n cx dX3_isAhead_51 rfl ?_
      refine m_calli cx (k3_flock cx.htr hw) (lw_V q2137 q2139 qs42 q87 q2140) dn_X3_flock (RN.of rfl rfl rfl rfl) rfl hm rfl rfl (Nat.le_of_ble_eq_true rfl) dX3_isAhead_52 (Nat.zero_le _) (Nat.zero_le _) (fun h hm => ?_)
      refine a_icmp_ne cx (tgt := 67) dX3_isAhead_55 (by decide) (fun c55 => ?_) (fun c55 => ?_)
      · have d55 : cnt (σ.2 1) (nI i) (nS (σ.2 1)) ≠ cnt (σ.2 1) (nI j) (nS (σ.2 1)) := fun q => c55 (by rw [q])
        have r : (0 : Int32) = bI (ahead (σ.2 1) i j) := by unfold ahead; rw [if_pos c10, bI_f (decide_eq_false (fun q => q.elim (fun z => by omega) (fun z => d55 z.1)))]
        refine a_iconst cx (v := 0) dX3_isAhead_67 (by decide) ?_
        exact a_zret cx hq dX3_isAhead_68 rfl ⟨_, ⟨by rw [r], rfl⟩, hm⟩ (Nat.zero_le _) (Nat.zero_le _)
      · have d55 : cnt (σ.2 1) (nI i) (nS (σ.2 1)) = cnt (σ.2 1) (nI j) (nS (σ.2 1)) := nI_inj (by omega) (by omega) c55
        refine a_iload_n cx dX3_isAhead_58 rfl ?_
        refine a_iload_n cx dX3_isAhead_59 rfl ?_
        refine a_icmp_ge cx (tgt := 67) dX3_isAhead_60 (by decide) (fun c60 => ?_) (fun c60 => ?_)
        · have d60 := le_nI c60 (by omega) (by omega)
          have r : (0 : Int32) = bI (ahead (σ.2 1) i j) := by unfold ahead; rw [if_pos c10, bI_f (decide_eq_false (fun q => q.elim (fun z => by omega) (fun z => by omega)))]
          refine a_iconst cx (v := 0) dX3_isAhead_67 (by decide) ?_
          exact a_zret cx hq dX3_isAhead_68 rfl ⟨_, ⟨by rw [r], rfl⟩, hm⟩ (Nat.zero_le _) (Nat.zero_le _)
        · have d60 := nle_nI c60 (by omega) (by omega)
          have r : (1 : Int32) = bI (ahead (σ.2 1) i j) := by unfold ahead; rw [if_pos c10, bI_t (decide_eq_true (Or.inr ⟨d55, d60⟩))]
          refine a_iconst cx (v := 1) dX3_isAhead_63 (by decide) ?_
          refine a_goto cx (tgt := 68) dX3_isAhead_64 (by decide) ?_
          exact a_zret cx hq dX3_isAhead_68 rfl ⟨_, ⟨by rw [r], rfl⟩, hm⟩ (Nat.zero_le _) (Nat.zero_le _)
  · refine a_aload_n cx dX3_isAhead_13 rfl ?_
    refine a_iload_n cx dX3_isAhead_14 rfl ?_
    refine m_calli cx (k3_weights cx.htr hw) (lw_V q2177 q2179 qs48 q87 q2180) dn_X3_weights (RN.of rfl rfl rfl rfl) rfl hm rfl rfl (Nat.le_of_ble_eq_true rfl) dX3_isAhead_15 (Nat.zero_le _) (Nat.zero_le _) (fun h hm => ?_)
    refine a_aload_n cx dX3_isAhead_18 rfl ?_
    refine a_iload_n cx dX3_isAhead_19 rfl ?_
    refine m_calli cx (k3_weights cx.htr hw) (lw_V q2177 q2179 qs48 q87 q2180) dn_X3_weights (RN.of rfl rfl rfl rfl) rfl hm rfl rfl (Nat.le_of_ble_eq_true rfl) dX3_isAhead_20 (Nat.zero_le _) (Nat.zero_le _) (fun h hm => ?_)
    refine a_icmp_le cx (tgt := 30) dX3_isAhead_23 (by decide) (fun c23 => ?_) (fun c23 => ?_)
    · have r : (0 : Int32) = bI (ahead (σ.2 1) i j) := by unfold ahead; rw [if_neg c10, bI_f (decide_eq_false (Int32.not_lt.mpr c23))]
      refine a_iconst cx (v := 0) dX3_isAhead_30 (by decide) ?_
      exact a_zret cx hq dX3_isAhead_31 rfl ⟨_, ⟨by rw [r], rfl⟩, hm⟩ (Nat.zero_le _) (Nat.zero_le _)
    · have r : (1 : Int32) = bI (ahead (σ.2 1) i j) := by unfold ahead; rw [if_neg c10, bI_t (decide_eq_true (Int32.not_le.mp c23))]
      refine a_iconst cx (v := 1) dX3_isAhead_26 (by decide) ?_
      refine a_goto cx (tgt := 31) dX3_isAhead_27 (by decide) ?_
      exact a_zret cx hq dX3_isAhead_31 rfl ⟨_, ⟨by rw [r], rfl⟩, hm⟩ (Nat.zero_le _) (Nat.zero_le _)
