/-! STRINGBUILDERS, room -/
set_option maxRecDepth 100000
abbrev rm_J17_copyOf_3 : Room := { frames := 1, cells := 1, slots := 200, locals := 40 }
set_option maxHeartbeats 4000000 in
theorem j17_copyOf_3 {lx : Launch} {g : GP} {h : AH} (htr : lx.stackTraces = false) {b m n : Nat} {f : Nat → Int32} (hb : h b = some (eI (g.2.1 1) m f)) (hn : m < n) (hm : n < 200) (hfit : sb_Fit f) : KT lx g yJ17_copyOf_3 (ws_ yJ17_copyOf_3 cJ17_copyOf_3 3 (some (.array .byte))) rm_J17_copyOf_3 1 200 [.ref b, .int (nI n)] h (fun v h' => ∃ q f', h q = none ∧ gB g ≤ q ∧ v = some (.ref q) ∧ (∀ i, i < m → f' i = f i) ∧ sb_Fit f' ∧ h' = hset h q (eI (g.2.1 1) n f')) (noX) := by
  refine KT.of (by decide +kernel) htr (Nat.le_of_ble_eq_true rfl) (L0 := [some (.ref b), some (.int (nI n)), none]) rfl ?_
  intro M cx hl9 hq hin hnx
  refine a_iload_n cx dJ17_copyOf_3_0 rfl ?_
  refine a_aload_n cx dJ17_copyOf_3_1 rfl ?_
  refine a_alen1 cx dJ17_copyOf_3_2 hb ?_
  refine a_icmp_ne cx (tgt := 14) dJ17_copyOf_3_3 (by decide) (fun c3 => ?_) (fun c3 => absurd (nI_inj (by omega) (by omega) c3) (by omega))
  refine a_iload_n cx dJ17_copyOf_3_14 rfl ?_
  refine a_newaB cx dJ17_copyOf_3_15 rfl (by omega) (Nat.le_of_ble_eq_true rfl) (by show 0 + n ≤ 200; omega) (fun q n15 hB15 => ?_)
  refine AW.widen (Nat.le_refl _) (Nat.add_le_add_left (show n ≤ 200 by omega) _) ?_
  have hne : b ≠ q := fun e => by rw [e, n15] at hb; cases hb
  refine a_astore_n cx dJ17_copyOf_3_17 (Nat.le_of_ble_eq_true rfl) rfl ?_
  refine a_aload_n cx dJ17_copyOf_3_18 rfl ?_
  refine a_iconst cx (v := 0) dJ17_copyOf_3_19 (by decide) ?_
  refine a_aload_n cx dJ17_copyOf_3_20 rfl ?_
  refine a_iconst cx (v := 0) dJ17_copyOf_3_21 (by decide) ?_
  refine a_aload_n cx dJ17_copyOf_3_22 rfl ?_
  refine a_alen1 cx dJ17_copyOf_3_23 ((hset_n hne).trans hb) ?_
  refine a_iload_n cx dJ17_copyOf_3_24 rfl ?_
  refine a_mmin cx (x := m) (y := n) q555 q556 q97 q557 (by omega) (by omega) dJ17_copyOf_3_25 (Nat.le_of_ble_eq_true rfl) (Nat.le_of_ble_eq_true rfl) (Nat.le_of_ble_eq_true rfl) (Nat.le_of_ble_eq_true rfl) ?_
  refine a_copyI cx 1 rfl rfl q558 q560 q559 q99 ((hset_n hne).trans hb) (hset_s _ _ _) hB15 (show (0 : Int32) = nI 0 from rfl) (show (0 : Int32) = nI 0 from rfl) rfl (by omega) (by omega) (by omega) (by omega) (fun i hi => by rw [Nat.zero_add]; exact hfit _) dJ17_copyOf_3_28 (Nat.le_of_ble_eq_true rfl) (Nat.le_of_ble_eq_true rfl) ?_
  refine a_aload_n cx dJ17_copyOf_3_31 rfl ?_
  exact a_aret cx hq dJ17_copyOf_3_32 (Or.inr ⟨_, rfl⟩) ⟨q, va_cpy f (fun _ => 0) 0 0 (min m n), n15, hB15, rfl, fun i hi => (by unfold va_cpy; rw [if_pos (by omega)]; congr 1; omega), sb_fitC hfit sb_fit0, by rw [hset_hset]⟩ (Nat.le_of_ble_eq_true rfl) (Nat.le_of_ble_eq_true rfl)
