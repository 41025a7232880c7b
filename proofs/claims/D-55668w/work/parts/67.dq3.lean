/-! ARRAYDEQUES, 3 -/
set_option maxRecDepth 100000
abbrev rm_J3_circularClear : Room := { frames := 0, cells := 0, slots := 0, locals := 0 }
set_option maxHeartbeats 4000000 in
theorem j3_circularClear {lx : Launch} {g : GP} {h : AH} (htr : lx.stackTraces = false) {b i0 e0 : Nat} {f : Nat → Option Nat} (hb : h b = some (eQ (g.2.1 4) 17 f)) (hi : i0 < 17) (he0 : e0 < 17) (hBe : gB g ≤ b) : KT lx g yJ3_circularClear (ws_ yJ3_circularClear cJ3_circularClear 4 none) rm_J3_circularClear 0 0 [.ref b, .int (nI i0), .int (nI e0)] h (fun v h' => v = none ∧ ∃ f', h' = hset h b (eQ (g.2.1 4) 17 f')) (noX) := by
  refine KT.of (by decide +kernel) htr (Nat.le_of_ble_eq_true rfl) (L0 := [some (.ref b), some (.int (nI i0)), some (.int (nI e0)), none]) rfl ?_
  intro M cx hl9 hq hin hnx
  have loop : ∀ (j i t : Nat) (f1 : Nat → Option Nat), i ≤ t → t ≤ 17 → (t - i) + (if t = e0 then 0 else 18) < j → AW g M 0 0 12 [some (.ref b), some (.int (nI i)), some (.int (nI e0)), some (.int (nI t))] [] (hset h b (eQ (g.2.1 4) 17 f1)) := by
    intro j
    induction j with
    | zero => intro i t f1 h1 h2 h3; omega
    | succ j ih =>
      intro i t f1 h1 h2 h3
      refine a_iload_n cx dJ3_circularClear_12 rfl ?_
      refine a_iload_n cx dJ3_circularClear_13 rfl ?_
      refine a_icmp_ge cx (tgt := 27) dJ3_circularClear_14 (by decide) (fun c14 => ?_) (fun c14 => ?_)
      · have d14 := le_nI c14 (by omega) (by omega)
        obtain rfl : i = t := by omega
        refine a_iload_n cx dJ3_circularClear_27 rfl ?_
        refine a_iload_n cx dJ3_circularClear_28 rfl ?_
        refine a_icmp_ne cx (tgt := 35) dJ3_circularClear_29 (by decide) (fun c29 => ?_) (fun c29 => ?_)
        · have d29 : i ≠ e0 := fun q => c29 (by rw [q])
          rw [if_neg d29] at h3
          refine a_iconst cx (v := 0) dJ3_circularClear_35 (by decide) ?_
          refine a_istore_n cx dJ3_circularClear_36 (Nat.le_of_ble_eq_true rfl) rfl ?_
          refine a_iload_n cx dJ3_circularClear_37 rfl ?_
          refine a_istore_n cx dJ3_circularClear_38 (Nat.le_of_ble_eq_true rfl) rfl ?_
          refine a_goto cx (tgt := 12) dJ3_circularClear_39 (by decide) ?_
          exact ih 0 e0 f1 (Nat.zero_le _) (by omega) (by rw [if_pos rfl]; omega)
        · have d29 : i = e0 := nI_inj (by omega) (by omega) c29
          refine a_goto cx (tgt := 42) dJ3_circularClear_32 (by decide) ?_
          exact a_vret cx hq dJ3_circularClear_42 ⟨rfl, _, rfl⟩ (Nat.le_of_ble_eq_true rfl) (Nat.le_of_ble_eq_true rfl)
      · have d14 := nle_nI c14 (by omega) (by omega)
        refine a_aload_n cx dJ3_circularClear_17 rfl ?_
        refine a_iload_n cx dJ3_circularClear_18 rfl ?_
        refine a_null cx dJ3_circularClear_19 ?_
        refine a_aastN cx dJ3_circularClear_20 (hset_s _ _ _) hBe rfl (by omega) (by omega) ?_
        refine a_iincN cx dJ3_circularClear_21 rfl (Nat.le_of_ble_eq_true rfl) rfl ?_
        refine a_goto cx (tgt := 12) dJ3_circularClear_24 (by decide) ?_
        rw [hset_hset]
        exact ih (i + 1) t _ (by omega) h2 (by omega)
  refine a_iload_n cx dJ3_circularClear_0 rfl ?_
  refine a_iload_n cx dJ3_circularClear_1 rfl ?_
  refine a_icmp_gt cx (tgt := 9) dJ3_circularClear_2 (by decide) (fun c2 => ?_) (fun c2 => ?_)
  · have d2 := lt_nI c2 (by omega) (by omega)
    refine a_aload_n cx dJ3_circularClear_9 rfl ?_
    refine a_alen4 cx dJ3_circularClear_10 hb ?_
    refine a_istore_n cx dJ3_circularClear_11 (Nat.le_of_ble_eq_true rfl) rfl ?_
    have q9 := loop 60 i0 17 f (by omega) (by omega) (by split <;> omega)
    rw [hset_same hb] at q9
    exact q9
  · have d2 := nlt_nI c2 (by omega) (by omega)
    refine a_iload_n cx dJ3_circularClear_5 rfl ?_
    refine a_goto cx (tgt := 11) dJ3_circularClear_6 (by decide) ?_
    refine a_istore_n cx dJ3_circularClear_11 (Nat.le_of_ble_eq_true rfl) rfl ?_
    have q9 := loop 60 i0 e0 f (by omega) (by omega) (by split <;> omega)
    rw [hset_same hb] at q9
    exact q9
abbrev rm_J3_clear : Room := { frames := 1, cells := 0, slots := 0, locals := 23 }
set_option maxHeartbeats 4000000 in
theorem j3_clear {lx : Launch} {g : GP} {h : AH} (htr : lx.stackTraces = false) {a el hd : Nat} {l : List Nat} (hD : DQ g h a el hd l) : KT lx g yJ3_clear (ws_ yJ3_clear cJ3_clear 1 none) rm_J3_clear 0 0 [.ref a] h (fun v h' => v = none ∧ DQ g h' a el 0 [] ∧ ∀ q, q ≠ a → q ≠ el → h' q = h q) (noX) := by
  refine KT.of (by decide +kernel) htr (Nat.le_of_ble_eq_true rfl) (L0 := [some (.ref a)]) rfl ?_
  intro M cx hl9 hq hin hnx
  have hne := hD.ne
  refine AW.hk fun hk9 => ?_
  have hBe := hD.hB cx.hG.K hk9
  obtain ⟨ha, ⟨f, he, hf⟩, hhd, hl9⟩ := hD
  have hdl := dp_lt' (hd := hd) hhd (show l.length < 17 by omega)
  refine a_aload_n cx dJ3_clear_0 rfl ?_
  refine a_get cx fl_J3_3.g dJ3_clear_1 (by assumption) (by exact rfl) ?_
  refine a_aload_n cx dJ3_clear_4 rfl ?_
  refine a_get cx fl_J3_24.g dJ3_clear_5 (by assumption) (by exact rfl) ?_
  refine a_aload_n cx dJ3_clear_8 rfl ?_
  refine a_get cx fl_J3_20.g dJ3_clear_9 (by assumption) (by exact rfl) ?_
  refine c_S cx (j3_circularClear cx.htr he hhd hdl hBe) (lw_S q281 q282 q82 q283) dn_J3_circularClear (RN.of rfl rfl rfl rfl) rfl rfl (Nat.le_of_ble_eq_true rfl) dJ3_clear_12 (Nat.le_of_ble_eq_true rfl) (Nat.le_of_ble_eq_true rfl) (fun v9 h hp9 => ?_) (fun E9 q9 h9 hx9 => hx9.elim)
  obtain ⟨rfl, f', rfl⟩ := hp9
  have ha2 := (hset_n (e := eQ (g.2.1 4) 17 f') (Ne.symm hne)).trans ha
  refine a_aload_n cx dJ3_clear_15 rfl ?_
  refine a_aload_n cx dJ3_clear_16 rfl ?_
  refine a_iconst cx (v := 0) dJ3_clear_17 (by decide) ?_
  refine a_dup_x1 cx dJ3_clear_18 rfl rfl ?_
  refine a_put cx fl_J3_20 dJ3_clear_19 ha2 rfl rfl (by exact (Nat.le_of_ble_eq_true rfl)) ?_
  refine a_put cx fl_J3_24 dJ3_clear_22 (hset_s _ _ _) rfl rfl (by exact (Nat.le_of_ble_eq_true rfl)) ?_
  exact a_vret cx hq dJ3_clear_25 ⟨rfl, ⟨hset_s _ _ _, ⟨_, (hset_n hne).trans ((hset_n hne).trans (hset_s _ _ _)), fun i hi => absurd hi (Nat.not_lt_zero _)⟩, by decide, by decide⟩, fun q h1 h2 => (hset_n h1).trans ((hset_n h1).trans (hset_n h2))⟩ (Nat.le_of_ble_eq_true rfl) (Nat.le_of_ble_eq_true rfl)
