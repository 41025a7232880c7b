/-! STRINGBUILDERS, room 2 -/
set_option maxRecDepth 100000
theorem shl0 (x : Int32) : x <<< ((0 : Int32) &&& 31) = x := by
  have : (0 : Int32) &&& 31 = 0 := by decide
  rw [this]
  apply Int32.toBitVec_inj.mp
  simp
abbrev rm_J4_newCapacity : Room := { frames := 2, cells := 0, slots := 0, locals := 53 }
set_option maxHeartbeats 4000000 in
theorem j4_newCapacity {lx : Launch} {g : GP} {h : AH} (htr : lx.stackTraces = false) {a b m n : Nat} {x : Int32} {f : Nat → Int32} (ha : h a = some (eO 14 [.ref b, .int 0, .int 0, .int x])) (hb : h b = some (eI (g.2.1 1) m f)) (h0 : 0 < m) (hn : m < n) (hn9 : n < 200) : KT lx g yJ4_newCapacity (ws_ yJ4_newCapacity cJ4_newCapacity 6 (some .int)) rm_J4_newCapacity 0 0 [.ref a, .int (nI n)] h (isP (.int (nI (m + max (n - m) (m + 2)))) h) (noX) := by
  refine KT.of (by decide +kernel) htr (Nat.le_of_ble_eq_true rfl) (L0 := [some (.ref a), some (.int (nI n)), none, none, none, none]) rfl ?_
  intro M cx hl9 hq hin hnx
  refine a_aload_n cx dJ4_newCapacity_0 rfl ?_
  refine a_get cx fl_J4_15.g dJ4_newCapacity_1 (by assumption) (by exact rfl) ?_
  refine a_alen1 cx dJ4_newCapacity_4 hb ?_
  refine a_istore_n cx dJ4_newCapacity_5 (Nat.le_of_ble_eq_true rfl) rfl ?_
  refine a_iload_n cx dJ4_newCapacity_6 rfl ?_
  refine a_aload_n cx dJ4_newCapacity_7 rfl ?_
  refine a_get cx fl_J4_22.g dJ4_newCapacity_8 (by assumption) (by exact rfl) ?_
  refine a_ishl cx dJ4_newCapacity_11 ?_
  refine AW.topi (shl0 _) ?_
  refine a_istore_n cx dJ4_newCapacity_12 (Nat.le_of_ble_eq_true rfl) rfl ?_
  refine a_iload_n cx dJ4_newCapacity_13 rfl ?_
  refine a_iload_n cx dJ4_newCapacity_14 rfl ?_
  refine a_isub cx dJ4_newCapacity_15 ?_
  refine AW.topi (pk_sub (by omega)) ?_
  refine a_istore cx dJ4_newCapacity_16 (Nat.le_of_ble_eq_true rfl) rfl ?_
  refine a_iload_n cx dJ4_newCapacity_18 rfl ?_
  refine a_iload cx dJ4_newCapacity_19 rfl ?_
  refine a_iload_n cx dJ4_newCapacity_21 rfl ?_
  refine a_iconst cx (v := 2) dJ4_newCapacity_22 (by decide) ?_
  refine a_aload_n cx dJ4_newCapacity_23 rfl ?_
  refine a_get cx fl_J4_22.g dJ4_newCapacity_24 (by assumption) (by exact rfl) ?_
  refine a_ishl cx dJ4_newCapacity_27 ?_
  refine AW.topi (show _ = nI 2 from shl0 2) ?_
  refine a_iadd cx dJ4_newCapacity_28 ?_
  refine AW.topi (nI_add _ _) ?_
  refine c_Sp cx (j15_newLength (o := m) (m := n - m) (p := m + 2) cx.htr (by omega) (by omega) (by omega) (by omega)) (lw_S q832 q509 q96 q510) dn_J15_newLength (RN.of rfl rfl rfl rfl) rfl rfl (Nat.le_of_ble_eq_true rfl) dJ4_newCapacity_29 (Nat.le_of_ble_eq_true rfl) (Nat.le_of_ble_eq_true rfl) ?_
  refine a_istore cx dJ4_newCapacity_32 (Nat.le_of_ble_eq_true rfl) rfl ?_
  refine a_iload cx dJ4_newCapacity_34 rfl ?_
  refine a_ldc cx q833 dJ4_newCapacity_36 ?_
  refine a_icmp_ne cx (tgt := 51) dJ4_newCapacity_38 (by decide) (fun c38 => ?_) (fun c38 => absurd c38 (by intro q; have := nI_inj (b := 2147483647) (by omega) (by omega) q; omega))
  refine a_iload cx dJ4_newCapacity_51 rfl ?_
  refine a_aload_n cx dJ4_newCapacity_53 rfl ?_
  refine a_get cx fl_J4_22.g dJ4_newCapacity_54 (by assumption) (by exact rfl) ?_
  refine a_ishr cx dJ4_newCapacity_57 ?_
  refine AW.topi (shr0 _) ?_
  exact a_iret cx hq dJ4_newCapacity_58 ⟨rfl, rfl⟩ (Nat.le_of_ble_eq_true rfl) (Nat.le_of_ble_eq_true rfl)
