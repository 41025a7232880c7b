/-! ARRAYLISTS, adding -/
set_option maxRecDepth 100000
abbrev rm_J15_newLength : Room := { frames := 1, cells := 0, slots := 0, locals := 30 }
set_option maxHeartbeats 4000000 in
theorem j15_newLength {lx : Launch} {g : GP} {h : AH} (htr : lx.stackTraces = false) {o m p : Nat} (ho : 0 < o) (ho9 : o < 1000) (hm : m < 1000) (hp : p < 1000) : KT lx g yJ15_newLength (ws_ yJ15_newLength cJ15_newLength 4 (some .int)) rm_J15_newLength 0 0 [.int (nI o), .int (nI m), .int (nI p)] h (isP (.int (nI (o + max m p))) h) (noX) := by
  refine KT.of (by decide +kernel) htr (Nat.le_of_ble_eq_true rfl) (L0 := [some (.int (nI o)), some (.int (nI m)), some (.int (nI p)), none]) rfl ?_
  intro M cx hl9 hq hin hnx
  refine a_iload_n cx dJ15_newLength_0 rfl ?_
  refine a_iload_n cx dJ15_newLength_1 rfl ?_
  refine a_iload_n cx dJ15_newLength_2 rfl ?_
  refine a_mmax cx q511 q512 q97 q513 (by omega) (by omega) dJ15_newLength_3 (Nat.le_of_ble_eq_true rfl) (Nat.le_of_ble_eq_true rfl) (Nat.le_of_ble_eq_true rfl) (Nat.le_of_ble_eq_true rfl) ?_
  refine a_iadd cx dJ15_newLength_6 ?_
  refine AW.topi (nI_add _ _) ?_
  refine a_istore_n cx dJ15_newLength_7 (Nat.le_of_ble_eq_true rfl) rfl ?_
  refine a_iconst cx (v := 0) dJ15_newLength_8 (by decide) ?_
  refine a_iload_n cx dJ15_newLength_9 rfl ?_
  refine a_icmp_ge cx (tgt := 21) dJ15_newLength_10 (by decide) (fun c10 => absurd c10 (by intro q; have := le_nI (b := 0) q (by omega) (by omega); omega)) (fun c10 => ?_)
  refine a_iload_n cx dJ15_newLength_13 rfl ?_
  refine a_ldc cx q514 dJ15_newLength_14 ?_
  refine a_icmp_gt cx (tgt := 21) dJ15_newLength_16 (by decide) (fun c16 => absurd c16 (by intro q; have := lt_nI (a := 2147483639) q (by omega) (by omega); omega)) (fun c16 => ?_)
  refine a_iload_n cx dJ15_newLength_19 rfl ?_
  exact a_iret cx hq dJ15_newLength_20 ⟨rfl, rfl⟩ (Nat.le_of_ble_eq_true rfl) (Nat.le_of_ble_eq_true rfl)
abbrev rm_J17_copyOf_2 : Room := { frames := 1, cells := 1, slots := 100, locals := 40 }
set_option maxHeartbeats 4000000 in
theorem j17_copyOf_2 {lx : Launch} {g : GP} {h : AH} (htr : lx.stackTraces = false) {b c m : Nat} {f : Nat → Option Nat} (hb : h b = some (eQ (g.2.1 4) c f)) (hm : m < 100) (hc : c < 100) (hob : ∀ i, i < c → ∀ y, f i = some y → isOb h y) : KT lx g yJ17_copyOf_2 (ws_ yJ17_copyOf_2 cJ17_copyOf_2 4 (some (.array (.object "java/lang/Object")))) rm_J17_copyOf_2 1 100 [.ref b, .int (nI m), .ref (gs g 3)] h (fun v h' => ∃ nd, h nd = none ∧ gB g ≤ nd ∧ v = some (.ref nd) ∧ h' = hset h nd (eQ (g.2.1 4) m (va_cpy f (fun _ => none) 0 0 (min c m)))) (noX) := by
  refine KT.of (by decide +kernel) htr (Nat.le_of_ble_eq_true rfl) (L0 := [some (.ref b), some (.int (nI m)), some (.ref (gs g 3)), none]) rfl ?_
  intro M cx hl9 hq hin hnx
  refine a_aload_n cx dJ17_copyOf_2_0 rfl ?_
  refine a_ldcM cx q553 dJ17_copyOf_2_1 ?_
  refine a_acmp_ne cx (tgt := 13) (rx := some (gs g 3)) (ry := some (gs g 3)) dJ17_copyOf_2_3 (by decide) (fun c3 => absurd rfl c3) (fun c3 => ?_)
  refine a_iload_n cx dJ17_copyOf_2_6 rfl ?_
  refine a_newaQ cx dJ17_copyOf_2_7 q554 rfl (by omega) (Nat.le_of_ble_eq_true rfl) (by show 0 + m ≤ 100; omega) (fun nd n7 hB7 => ?_)
  refine AW.widen (Nat.le_refl _) (Nat.add_le_add_left (show m ≤ 100 by omega) _) ?_
  have hne : b ≠ nd := fun q => by rw [q, n7] at hb; cases hb
  refine a_goto cx (tgt := 24) dJ17_copyOf_2_10 (by decide) ?_
  refine a_astore_n cx dJ17_copyOf_2_24 (Nat.le_of_ble_eq_true rfl) rfl ?_
  refine a_aload_n cx dJ17_copyOf_2_25 rfl ?_
  refine a_iconst cx (v := 0) dJ17_copyOf_2_26 (by decide) ?_
  refine a_aload_n cx dJ17_copyOf_2_27 rfl ?_
  refine a_iconst cx (v := 0) dJ17_copyOf_2_28 (by decide) ?_
  refine a_aload_n cx dJ17_copyOf_2_29 rfl ?_
  refine a_alen4 cx dJ17_copyOf_2_30 ((hset_n hne).trans hb) ?_
  refine a_iload_n cx dJ17_copyOf_2_31 rfl ?_
  refine a_mmin cx q555 q556 q97 q557 (by omega) (by omega) dJ17_copyOf_2_32 (Nat.le_of_ble_eq_true rfl) (Nat.le_of_ble_eq_true rfl) (Nat.le_of_ble_eq_true rfl) (Nat.le_of_ble_eq_true rfl) ?_
  refine a_copyQ cx q558 q560 q559 q99 ((hset_n hne).trans hb) (hset_s _ _ _) hB7 (show (0 : Int32) = nI 0 from rfl) (show (0 : Int32) = nI 0 from rfl) rfl (by omega) (by omega) (by omega) (by omega) (fun i hi y hy => by obtain ⟨ci, fs, r, g1, g2, g3⟩ := hob i (by omega) y (by rw [Nat.zero_add] at hy; exact hy); exact ⟨ci, fs, r, (hset_n (fun q => by rw [q, n7] at g1; cases g1)).trans g1, g2, g3⟩) dJ17_copyOf_2_35 (Nat.le_of_ble_eq_true rfl) (Nat.le_of_ble_eq_true rfl) ?_
  refine a_aload_n cx dJ17_copyOf_2_38 rfl ?_
  exact a_aret cx hq dJ17_copyOf_2_39 (Or.inr ⟨_, rfl⟩) ⟨nd, n7, hB7, rfl, by rw [hset_hset]⟩ (Nat.le_of_ble_eq_true rfl) (Nat.le_of_ble_eq_true rfl)
abbrev rm_J17_copyOf : Room := { frames := 2, cells := 1, slots := 100, locals := 63 }
set_option maxHeartbeats 4000000 in
theorem j17_copyOf {lx : Launch} {g : GP} {h : AH} (htr : lx.stackTraces = false) {b c m : Nat} {f : Nat → Option Nat} (hb : h b = some (eQ (g.2.1 4) c f)) (hm : m < 100) (hc : c < 100) (hob : ∀ i, i < c → ∀ y, f i = some y → isOb h y) : KT lx g yJ17_copyOf (ws_ yJ17_copyOf cJ17_copyOf 2 (some (.array (.object "java/lang/Object")))) rm_J17_copyOf 1 100 [.ref b, .int (nI m)] h (fun v h' => ∃ nd, h nd = none ∧ gB g ≤ nd ∧ v = some (.ref nd) ∧ h' = hset h nd (eQ (g.2.1 4) m (va_cpy f (fun _ => none) 0 0 (min c m)))) (noX) := by
  refine KT.of (by decide +kernel) htr (Nat.le_of_ble_eq_true rfl) (L0 := [some (.ref b), some (.int (nI m))]) rfl ?_
  intro M cx hl9 hq hin hnx
  refine a_aload_n cx dJ17_copyOf_0 rfl ?_
  refine a_iload_n cx dJ17_copyOf_1 rfl ?_
  refine a_aload_n cx dJ17_copyOf_2 rfl ?_
  refine a_getC cx q521 q2464 q522 q549 (by assumption) dJ17_copyOf_3 (Nat.le_of_ble_eq_true rfl) (Nat.le_of_ble_eq_true rfl) ?_
  refine c_S cx (j17_copyOf_2 cx.htr hb hm hc hob) (lw_S q550 q551 q98 q552) dn_J17_copyOf_2 (RN.of rfl rfl rfl rfl) rfl rfl (Nat.le_of_ble_eq_true rfl) dJ17_copyOf_6 (Nat.le_of_ble_eq_true rfl) (Nat.le_of_ble_eq_true rfl) (fun v9 h hp9 => ?_) (fun E9 q9 h9 hx9 => hx9.elim)
  obtain ⟨nd, n9, hB9, rfl, rfl⟩ := hp9
  exact a_aret cx hq dJ17_copyOf_9 (Or.inr ⟨_, rfl⟩) ⟨nd, n9, hB9, rfl, rfl⟩ (Nat.le_of_ble_eq_true rfl) (Nat.le_of_ble_eq_true rfl)
