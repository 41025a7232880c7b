/-! ARRAYLISTS, a new one; MORE OF STRINGS -/
set_option maxRecDepth 100000
abbrev rm_J0_init : Room := { frames := 1, cells := 0, slots := 0, locals := 20 }
set_option maxHeartbeats 4000000 in
theorem j0_init {lx : Launch} {g : GP} {h : AH} (htr : lx.stackTraces = false) {a : Nat} : KT lx g yJ0_init (ws_ yJ0_init cJ0_init 1 none) rm_J0_init 0 0 [.ref a] h (fun v h' => v = none ∧ h' = h) (noX) := by
  refine KT.of (by decide +kernel) htr (Nat.le_of_ble_eq_true rfl) (L0 := [some (.ref a)]) rfl ?_
  intro M cx hl9 hq hin hnx
  refine a_aload_n cx dJ0_init_0 rfl ?_
  refine a_objInit cx q143 q124 q125 dJ0_init_1 (Nat.le_of_ble_eq_true rfl) (Nat.le_of_ble_eq_true rfl) ?_
  exact a_vret cx hq dJ0_init_4 ⟨rfl, rfl⟩ (Nat.le_of_ble_eq_true rfl) (Nat.le_of_ble_eq_true rfl)
abbrev rm_J1_init : Room := { frames := 2, cells := 0, slots := 0, locals := 40 }
set_option maxHeartbeats 4000000 in
theorem j1_init {lx : Launch} {g : GP} {h : AH} (htr : lx.stackTraces = false) {a : Nat} (ha : h a = some (eO 12 [.int 0, .null, .int 0])) : KT lx g yJ1_init (ws_ yJ1_init cJ1_init 1 none) rm_J1_init 0 0 [.ref a] h (fun v h' => v = none ∧ h' = h) (noX) := by
  refine KT.of (by decide +kernel) htr (Nat.le_of_ble_eq_true rfl) (L0 := [some (.ref a)]) rfl ?_
  intro M cx hl9 hq hin hnx
  refine a_aload_n cx dJ1_init_0 rfl ?_
  refine c_I cx (j0_init cx.htr) (lw_meth q142) q79 q140 q141 rfl dn_J0_init (RN.of rfl rfl rfl rfl) rfl rfl (Nat.le_of_ble_eq_true rfl) dJ1_init_1 (Nat.le_of_ble_eq_true rfl) (Nat.le_of_ble_eq_true rfl) (fun v9 h hp9 => ?_) (fun E9 q9 h9 hx9 => hx9.elim)
  obtain ⟨rfl, rfl⟩ := hp9
  refine a_aload_n cx dJ1_init_4 rfl ?_
  refine a_iconst cx (v := 0) dJ1_init_5 (by decide) ?_
  refine a_put cx fl_J1_7 dJ1_init_6 (by assumption) rfl rfl (by exact (Nat.le_of_ble_eq_true rfl)) ?_
  exact a_vret cx hq dJ1_init_9 ⟨rfl, hset_same ha⟩ (Nat.le_of_ble_eq_true rfl) (Nat.le_of_ble_eq_true rfl)
abbrev rm_J2_init : Room := { frames := 3, cells := 0, slots := 0, locals := 60 }
set_option maxHeartbeats 4000000 in
theorem j2_init {lx : Launch} {g : GP} {h : AH} (htr : lx.stackTraces = false) {a : Nat} (ha : h a = some (eO 12 [.int 0, .null, .int 0])) : KT lx g yJ2_init (ws_ yJ2_init cJ2_init 1 none) rm_J2_init 0 0 [.ref a] h (fun v h' => v = none ∧ h' = hset h a (eO 12 [.int 0, .ref (gs g 0), .int 0]) ∧ AL g h' a (gs g 0) 0 0 []) (noX) := by
  refine KT.of (by decide +kernel) htr (Nat.le_of_ble_eq_true rfl) (L0 := [some (.ref a)]) rfl ?_
  intro M cx hl9 hq hin hnx
  refine a_aload_n cx dJ2_init_0 rfl ?_
  refine c_I cx (j1_init cx.htr ha) (lw_meth q139) q80 q137 q138 rfl dn_J1_init (RN.of rfl rfl rfl rfl) rfl rfl (Nat.le_of_ble_eq_true rfl) dJ2_init_1 (Nat.le_of_ble_eq_true rfl) (Nat.le_of_ble_eq_true rfl) (fun v9 h hp9 => ?_) (fun E9 q9 h9 hx9 => hx9.elim)
  obtain ⟨rfl, rfl⟩ := hp9
  refine a_aload_n cx dJ2_init_4 rfl ?_
  refine a_gets cx cx.hG.dce q144 dJ2_init_5 ?_
  refine a_put cx fl_J2_9 dJ2_init_8 (by assumption) rfl rfl (by exact (Nat.le_of_ble_eq_true rfl)) ?_
  refine AW.hk fun hk9 => ?_
  exact a_vret cx hq dJ2_init_11 ⟨rfl, rfl, hset_s _ _ _, ⟨_, hk9.2.2.1, fun i hi => absurd hi (Nat.not_lt_zero _)⟩, Nat.le_refl _, by decide, fun _ => rfl⟩ (Nat.le_of_ble_eq_true rfl) (Nat.le_of_ble_eq_true rfl)
abbrev rm_J18_equals : Room := { frames := 0, cells := 0, slots := 0, locals := 0 }
set_option maxHeartbeats 4000000 in
theorem j18_equals {lx : Launch} {g : GP} {h : AH} (htr : lx.stackTraces = false) {b c : Nat} {s t : List Nat} (hb : h b = some (eI (g.2.1 1) s.length (sCh s))) (hc : h c = some (eI (g.2.1 1) t.length (sCh t))) (as : asc s) (at_ : asc t) : KT lx g yJ18_equals (ws_ yJ18_equals cJ18_equals 3 (some .boolean)) rm_J18_equals 0 0 [.ref b, .ref c] h (isP (.int (bI (decide (s = t)))) h) (noX) := by
  refine KT.of (by decide +kernel) htr (Nat.le_of_ble_eq_true rfl) (L0 := [some (.ref b), some (.ref c), none]) rfl ?_
  intro M cx hl9 hq hin hnx
  have hs16 := as.1
  have ht16 := at_.1
  refine a_aload_n cx dJ18_equals_0 rfl ?_
  refine a_alen1 cx dJ18_equals_1 hb ?_
  refine a_aload_n cx dJ18_equals_2 rfl ?_
  refine a_alen1 cx dJ18_equals_3 hc ?_
  refine a_icmp_ne cx (tgt := 34) dJ18_equals_4 (by decide) (fun c4 => ?_) (fun c4 => ?_)
  · have hne : s.length ≠ t.length := fun q => c4 (by rw [q])
    have r : bI (decide (s = t)) = 0 := bI_f (decide_eq_false (fun q => hne (by rw [q])))
    refine a_iconst cx (v := 0) dJ18_equals_34 (by decide) ?_
    exact a_zret cx hq dJ18_equals_35 rfl ⟨by rw [r], rfl⟩ (Nat.le_of_ble_eq_true rfl) (Nat.le_of_ble_eq_true rfl)
  · have hle : s.length = t.length := nI_inj (by have := as.1; omega) (by have := at_.1; omega) c4
    refine a_iconst cx (v := 0) dJ18_equals_7 (by decide) ?_
    refine a_istore_n cx dJ18_equals_8 (Nat.le_of_ble_eq_true rfl) rfl ?_
    have loop : ∀ (j k : Nat), k ≤ s.length → s.length < k + j → (∀ i, i < k → s.getD i 0 = t.getD i 0) → AW g M 0 0 9 [some (.ref b), some (.ref c), some (.int (nI k))] [] h := by
      intro j
      induction j with
      | zero => intro k h1 h2; omega
      | succ j ih =>
        intro k h1 h2 hx0
        refine a_iload_n cx dJ18_equals_9 rfl ?_
        refine a_aload_n cx dJ18_equals_10 rfl ?_
        refine a_alen1 cx dJ18_equals_11 hb ?_
        refine a_icmp_ge cx (tgt := 32) dJ18_equals_12 (by decide) (fun c12 => ?_) (fun c12 => ?_)
        · have d12 := le_nI c12 (by have := as.1; omega) (by omega)
          have r : bI (decide (s = t)) = 1 := bI_t (decide_eq_true (getD_ext hle (fun i hi => hx0 i (by omega))))
          refine a_iconst cx (v := 1) dJ18_equals_32 (by decide) ?_
          exact a_zret cx hq dJ18_equals_33 rfl ⟨by rw [r], rfl⟩ (Nat.le_of_ble_eq_true rfl) (Nat.le_of_ble_eq_true rfl)
        · have d12 := nle_nI c12 (by have := as.1; omega) (by omega)
          refine a_aload_n cx dJ18_equals_15 rfl ?_
          refine a_iload_n cx dJ18_equals_16 rfl ?_
          refine a_bald cx dJ18_equals_17 hb rfl (by omega) (by have := as.1; omega) ?_
          refine a_aload_n cx dJ18_equals_18 rfl ?_
          refine a_iload_n cx dJ18_equals_19 rfl ?_
          refine a_bald cx dJ18_equals_20 hc rfl (by omega) (by have := at_.1; omega) ?_
          refine a_icmp_eq cx (tgt := 26) dJ18_equals_21 (by decide) (fun c21 => ?_) (fun c21 => ?_)
          · refine a_iincN cx dJ18_equals_26 rfl (Nat.le_of_ble_eq_true rfl) rfl ?_
            refine a_goto cx (tgt := 9) dJ18_equals_29 (by decide) ?_
            exact ih (k + 1) (by omega) (by omega) (fun i hi => by
              by_cases e : i = k
              · subst e; exact sb_inj as.at at_.at c21
              · exact hx0 i (by omega))
          · have r : bI (decide (s = t)) = 0 := bI_f (decide_eq_false (fun q => c21 (by rw [q])))
            refine a_iconst cx (v := 0) dJ18_equals_24 (by decide) ?_
            exact a_zret cx hq dJ18_equals_25 rfl ⟨by rw [r], rfl⟩ (Nat.le_of_ble_eq_true rfl) (Nat.le_of_ble_eq_true rfl)
    exact loop (s.length + 1) 0 (by omega) (by omega) (fun i hi => absurd hi (Nat.not_lt_zero _))
abbrev rm_J6_equals : Room := { frames := 1, cells := 0, slots := 0, locals := 22 }
set_option maxHeartbeats 4000000 in
theorem j6_equals {lx : Launch} {g : GP} {h : AH} (htr : lx.stackTraces = false) {a a2 : Nat} {s t : List Nat} (hS : StrAt g h a s) (hT : StrAt g h a2 t) (as : asc s) (at_ : asc t) : KT lx g yJ6_equals (ws_ yJ6_equals cJ6_equals 3 (some .boolean)) rm_J6_equals 0 0 [.ref a, .ref a2] h (isP (.int (bI (decide (s = t)))) h) (noX) := by
  refine KT.of (by decide +kernel) htr (Nat.le_of_ble_eq_true rfl) (L0 := [some (.ref a), some (.ref a2), none]) rfl ?_
  intro M cx hl9 hq hin hnx
  refine a_aload_n cx dJ6_equals_0 rfl ?_
  refine a_aload_n cx dJ6_equals_1 rfl ?_
  refine a_acmp_ne cx (tgt := 7) (rx := some a) (ry := some a2) dJ6_equals_2 (by decide) (fun c2 => ?_) (fun c2 => ?_)
  · obtain ⟨b, hs, hz, ha, hb, hh⟩ := id hS
    obtain ⟨b2, hs2, hz2, ha2, hb2, hh2⟩ := id hT
    refine a_aload_n cx dJ6_equals_7 rfl ?_
    refine a_instS (r := (RJ6, TJ6, 4)) cx q1138 dJ6_equals_8 (by assumption) rfl ?_
    refine a_if_eq cx (tgt := 54) dJ6_equals_11 (by decide) (fun c11 => absurd c11 (by decide)) (fun c11 => ?_)
    refine a_aload_n cx dJ6_equals_14 rfl ?_
    refine a_castS (r := (RJ6, TJ6, 4)) cx q1138 dJ6_equals_15 (by assumption) rfl ?_
    refine a_astore_n cx dJ6_equals_18 (Nat.le_of_ble_eq_true rfl) rfl ?_
    refine a_gets cx cx.hG.cst q883 dJ6_equals_19 ?_
    refine a_if_eq cx (tgt := 36) dJ6_equals_22 (by decide) (fun c22 => absurd c22 (by decide)) (fun c22 => ?_)
    refine a_aload_n cx dJ6_equals_25 rfl ?_
    refine a_get cx fl_J6_15.g dJ6_equals_26 ha (by exact rfl) ?_
    refine a_aload_n cx dJ6_equals_29 rfl ?_
    refine a_get cx fl_J6_15.g dJ6_equals_30 ha2 (by exact rfl) ?_
    refine a_icmp_ne cx (tgt := 54) dJ6_equals_33 (by decide) (fun c33 => absurd rfl c33) (fun c33 => ?_)
    refine a_aload_n cx dJ6_equals_36 rfl ?_
    refine a_get cx fl_J6_9.g dJ6_equals_37 ha (by exact rfl) ?_
    refine a_aload_n cx dJ6_equals_40 rfl ?_
    refine a_get cx fl_J6_9.g dJ6_equals_41 ha2 (by exact rfl) ?_
    refine c_Sp cx (j18_equals cx.htr hb hb2 as at_) (lw_S q1139 q1140 q102 q1141) dn_J18_equals (RN.of rfl rfl rfl rfl) rfl rfl (Nat.le_of_ble_eq_true rfl) dJ6_equals_44 (Nat.le_of_ble_eq_true rfl) (Nat.le_of_ble_eq_true rfl) ?_
    refine a_if_eq cx (tgt := 54) dJ6_equals_47 (by decide) (fun c47 => ?_) (fun c47 => ?_)
    · have r : bI (decide (s = t)) = 0 := c47
      refine a_iconst cx (v := 0) dJ6_equals_54 (by decide) ?_
      exact a_zret cx hq dJ6_equals_55 rfl ⟨by rw [r], rfl⟩ (Nat.le_of_ble_eq_true rfl) (Nat.le_of_ble_eq_true rfl)
    · have r : bI (decide (s = t)) = 1 := bI_t (bI_n0 c47)
      refine a_iconst cx (v := 1) dJ6_equals_50 (by decide) ?_
      refine a_goto cx (tgt := 55) dJ6_equals_51 (by decide) ?_
      exact a_zret cx hq dJ6_equals_55 rfl ⟨by rw [r], rfl⟩ (Nat.le_of_ble_eq_true rfl) (Nat.le_of_ble_eq_true rfl)
  · have e2 : a = a2 := Option.some.inj c2
    have hst : s = t := StrAt.eq hS (e2 ▸ hT) as at_
    have r : bI (decide (s = t)) = 1 := bI_t (decide_eq_true hst)
    refine a_iconst cx (v := 1) dJ6_equals_5 (by decide) ?_
    exact a_zret cx hq dJ6_equals_6 rfl ⟨by rw [r], rfl⟩ (Nat.le_of_ble_eq_true rfl) (Nat.le_of_ble_eq_true rfl)
