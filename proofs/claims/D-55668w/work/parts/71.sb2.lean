/-! BYTES COPIED -/
set_option maxRecDepth 100000
abbrev rm_J17_checkLength : Room := { frames := 0, cells := 0, slots := 0, locals := 0 }
set_option maxHeartbeats 4000000 in
theorem j17_checkLength {lx : Launch} {g : GP} {h : AH} (htr : lx.stackTraces = false) {x y : Nat} (hxy : x ≤ y) (hy : y < 2 ^ 31) : KT lx g yJ17_checkLength (ws_ yJ17_checkLength cJ17_checkLength 2 none) rm_J17_checkLength 0 0 [.int (nI x), .int (nI y)] h (fun v h' => v = none ∧ h' = h) (noX) := by
  refine KT.of (by decide +kernel) htr (Nat.le_of_ble_eq_true rfl) (L0 := [some (.int (nI x)), some (.int (nI y))]) rfl ?_
  intro M cx hl9 hq hin hnx
  refine a_iload_n cx dJ17_checkLength_0 rfl ?_
  refine a_iload_n cx dJ17_checkLength_1 rfl ?_
  refine a_icmp_ge cx (tgt := 37) dJ17_checkLength_2 (by decide) (fun c2 => ?_) (fun c2 => absurd (nI_le hxy (by omega)) c2)
  exact a_vret cx hq dJ17_checkLength_37 ⟨rfl, rfl⟩ (Nat.le_of_ble_eq_true rfl) (Nat.le_of_ble_eq_true rfl)
abbrev rm_J17_copyOfRangeByte : Room := { frames := 1, cells := 1, slots := 200, locals := 40 }
set_option maxHeartbeats 4000000 in
theorem j17_copyOfRangeByte {lx : Launch} {g : GP} {h : AH} (htr : lx.stackTraces = false) {b m n : Nat} {f : Nat → Int32} (hb : h b = some (eI (g.2.1 1) m f)) (hn : n ≤ m) (hm : m < 200) (hfit : ∀ i, i < n → fits .byte (.int (f i)) = true) : KT lx g yJ17_copyOfRangeByte (ws_ yJ17_copyOfRangeByte cJ17_copyOfRangeByte 5 (some (.array .byte))) rm_J17_copyOfRangeByte 1 200 [.ref b, .int (nI 0), .int (nI n)] h (fun v h' => ∃ q f', h q = none ∧ gB g ≤ q ∧ v = some (.ref q) ∧ (∀ i, i < n → f' i = f i) ∧ h' = hset h q (eI (g.2.1 1) n f')) (noX) := by
  refine KT.of (by decide +kernel) htr (Nat.le_of_ble_eq_true rfl) (L0 := [some (.ref b), some (.int (nI 0)), some (.int (nI n)), none, none]) rfl ?_
  intro M cx hl9 hq hin hnx
  refine a_iload_n cx dJ17_copyOfRangeByte_0 rfl ?_
  refine a_iload_n cx dJ17_copyOfRangeByte_1 rfl ?_
  refine c_S cx (j17_checkLength cx.htr (Nat.zero_le n) (by omega)) (lw_S q976 q977 q98 q978) dn_J17_checkLength (RN.of rfl rfl rfl rfl) rfl rfl (Nat.le_of_ble_eq_true rfl) dJ17_copyOfRangeByte_2 (Nat.le_of_ble_eq_true rfl) (Nat.le_of_ble_eq_true rfl) (fun v9 h hp9 => ?_) (fun E9 q9 h9 hx9 => hx9.elim)
  obtain ⟨rfl, rfl⟩ := hp9
  refine a_iload_n cx dJ17_copyOfRangeByte_5 rfl ?_
  refine a_iload_n cx dJ17_copyOfRangeByte_6 rfl ?_
  refine a_isub cx dJ17_copyOfRangeByte_7 ?_
  refine AW.topi (pk_sub (Nat.zero_le n)) ?_
  refine a_istore_n cx dJ17_copyOfRangeByte_8 (Nat.le_of_ble_eq_true rfl) rfl ?_
  refine a_iload_n cx dJ17_copyOfRangeByte_9 rfl ?_
  refine a_newaB cx dJ17_copyOfRangeByte_10 rfl (by omega) (Nat.le_of_ble_eq_true rfl) (by show 0 + (n - 0) ≤ 200; omega) (fun q n10 hB10 => ?_)
  refine AW.widen (Nat.le_refl _) (Nat.add_le_add_left (show n - 0 ≤ 200 by omega) _) ?_
  have hne : b ≠ q := fun e => by rw [e, n10] at hb; cases hb
  refine a_astore cx dJ17_copyOfRangeByte_12 (Nat.le_of_ble_eq_true rfl) rfl ?_
  refine a_aload_n cx dJ17_copyOfRangeByte_14 rfl ?_
  refine a_iload_n cx dJ17_copyOfRangeByte_15 rfl ?_
  refine a_aload cx dJ17_copyOfRangeByte_16 rfl ?_
  refine a_iconst cx (v := 0) dJ17_copyOfRangeByte_18 (by decide) ?_
  refine a_aload_n cx dJ17_copyOfRangeByte_19 rfl ?_
  refine a_alen1 cx dJ17_copyOfRangeByte_20 ((hset_n hne).trans hb) ?_
  refine a_iload_n cx dJ17_copyOfRangeByte_21 rfl ?_
  refine a_isub cx dJ17_copyOfRangeByte_22 ?_
  refine AW.topi (pk_sub (Nat.zero_le m)) ?_
  refine a_iload_n cx dJ17_copyOfRangeByte_23 rfl ?_
  refine a_mmin cx (x := m - 0) (y := n - 0) q555 q556 q97 q557 (by omega) (by omega) dJ17_copyOfRangeByte_24 (Nat.le_of_ble_eq_true rfl) (Nat.le_of_ble_eq_true rfl) (Nat.le_of_ble_eq_true rfl) (Nat.le_of_ble_eq_true rfl) ?_
  refine a_copyI cx 1 rfl rfl q558 q560 q559 q99 ((hset_n hne).trans hb) (hset_s _ _ _) hB10 (show _ = nI 0 from rfl) (show _ = nI 0 from rfl) rfl (by omega) (by omega) (by omega) (by omega) (fun i hi => by rw [Nat.zero_add]; exact hfit i (by omega)) dJ17_copyOfRangeByte_27 (Nat.le_of_ble_eq_true rfl) (Nat.le_of_ble_eq_true rfl) ?_
  refine a_aload cx dJ17_copyOfRangeByte_30 rfl ?_
  exact a_aret cx hq dJ17_copyOfRangeByte_32 (Or.inr ⟨_, rfl⟩) ⟨q, va_cpy f (fun _ => 0) 0 0 (min (m - 0) (n - 0)), n10, hB10, rfl, fun i hi => (by unfold va_cpy; rw [if_pos (by omega)]; congr 1; omega), by rw [hset_hset]; rfl⟩ (Nat.le_of_ble_eq_true rfl) (Nat.le_of_ble_eq_true rfl)
abbrev rm_J17_copyOfRange : Room := { frames := 2, cells := 1, slots := 200, locals := 64 }
set_option maxHeartbeats 4000000 in
theorem j17_copyOfRange {lx : Launch} {g : GP} {h : AH} (htr : lx.stackTraces = false) {b m n : Nat} {f : Nat → Int32} (hb : h b = some (eI (g.2.1 1) m f)) (hn : n ≤ m) (hm : m < 200) (hfit : ∀ i, i < n → fits .byte (.int (f i)) = true) : KT lx g yJ17_copyOfRange (ws_ yJ17_copyOfRange cJ17_copyOfRange 3 (some (.array .byte))) rm_J17_copyOfRange 1 200 [.ref b, .int (nI 0), .int (nI n)] h (fun v h' => ∃ q f', h q = none ∧ gB g ≤ q ∧ v = some (.ref q) ∧ (∀ i, i < n → f' i = f i) ∧ h' = hset h q (eI (g.2.1 1) n f')) (noX) := by
  refine KT.of (by decide +kernel) htr (Nat.le_of_ble_eq_true rfl) (L0 := [some (.ref b), some (.int (nI 0)), some (.int (nI n))]) rfl ?_
  intro M cx hl9 hq hin hnx
  refine a_iload_n cx dJ17_copyOfRange_0 rfl ?_
  refine a_if_ne cx (tgt := 10) dJ17_copyOfRange_1 (by decide) (fun c1 => absurd (show nI 0 = 0 from rfl) c1) (fun c1 => ?_)
  refine a_iload_n cx dJ17_copyOfRange_4 rfl ?_
  refine a_aload_n cx dJ17_copyOfRange_5 rfl ?_
  refine a_alen1 cx dJ17_copyOfRange_6 hb ?_
  refine a_icmp_eq cx (tgt := 17) dJ17_copyOfRange_7 (by decide) (fun c7 => ?_) (fun c7 => ?_)
  · have d7 : n = m := nI_inj (by omega) (by omega) c7
    subst d7
    refine a_aload_n cx dJ17_copyOfRange_17 rfl ?_
    refine a_cloneB cx q837 q838 q839 q840 q841 q842 hb hfit dJ17_copyOfRange_18 (Nat.le_of_ble_eq_true rfl) (Nat.le_of_ble_eq_true rfl) (Nat.le_of_ble_eq_true rfl) (by show 0 + n ≤ 200; omega) (fun q n18 hB18 => ?_)
    refine AW.widen (Nat.le_refl _) (Nat.add_le_add_left (show n ≤ 200 by omega) _) ?_
    refine a_castB cx q843 dJ17_copyOfRange_21 (hset_s _ _ _) ?_
    exact a_aret cx hq dJ17_copyOfRange_24 (Or.inr ⟨_, rfl⟩) ⟨q, f, n18, hB18, rfl, fun _ _ => rfl, rfl⟩ (Nat.le_of_ble_eq_true rfl) (Nat.le_of_ble_eq_true rfl)
  · refine a_aload_n cx dJ17_copyOfRange_10 rfl ?_
    refine a_iload_n cx dJ17_copyOfRange_11 rfl ?_
    refine a_iload_n cx dJ17_copyOfRange_12 rfl ?_
    refine c_S cx (j17_copyOfRangeByte cx.htr hb hn hm hfit) (lw_S q973 q974 q98 q975) dn_J17_copyOfRangeByte (RN.of rfl rfl rfl rfl) rfl rfl (Nat.le_of_ble_eq_true rfl) dJ17_copyOfRange_13 (Nat.le_of_ble_eq_true rfl) (Nat.le_of_ble_eq_true rfl) (fun v9 h hp9 => ?_) (fun E9 q9 h9 hx9 => hx9.elim)
    obtain ⟨q, f', n9, hB9, rfl, hf9, rfl⟩ := hp9
    exact a_aret cx hq dJ17_copyOfRange_16 (Or.inr ⟨_, rfl⟩) ⟨q, f', n9, hB9, rfl, hf9, rfl⟩ (Nat.le_of_ble_eq_true rfl) (Nat.le_of_ble_eq_true rfl)
