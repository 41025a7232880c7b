/-! STRINGBUILDERS -/
set_option maxRecDepth 100000
abbrev rm_J4_isLatin1 : Room := { frames := 0, cells := 0, slots := 0, locals := 0 }
set_option maxHeartbeats 4000000 in
theorem j4_isLatin1 {lx : Launch} {g : GP} {h : AH} (htr : lx.stackTraces = false) {a b : Nat} {m n : Int32} (ha : h a = some (eO 14 [.ref b, .int 0, .int m, .int n])) : KT lx g yJ4_isLatin1 (ws_ yJ4_isLatin1 cJ4_isLatin1 1 (some .boolean)) rm_J4_isLatin1 0 0 [.ref a] h (isP (.int 1) h) (noX) := by
  refine KT.of (by decide +kernel) htr (Nat.le_of_ble_eq_true rfl) (L0 := [some (.ref a)]) rfl ?_
  intro M cx hl9 hq hin hnx
  refine a_gets cx cx.hG.cst q220 dJ4_isLatin1_0 ?_
  refine a_if_eq cx (tgt := 17) dJ4_isLatin1_3 (by decide) (fun c3 => absurd c3 (by decide)) (fun c3 => ?_)
  refine a_aload_n cx dJ4_isLatin1_6 rfl ?_
  refine a_get cx fl_J4_22.g dJ4_isLatin1_7 (by assumption) (by exact rfl) ?_
  refine a_if_ne cx (tgt := 17) dJ4_isLatin1_10 (by decide) (fun c10 => absurd rfl c10) (fun c10 => ?_)
  refine a_iconst cx (v := 1) dJ4_isLatin1_13 (by decide) ?_
  refine a_goto cx (tgt := 18) dJ4_isLatin1_14 (by decide) ?_
  exact a_zret cx hq dJ4_isLatin1_18 rfl ⟨rfl, rfl⟩ (Nat.le_of_ble_eq_true rfl) (Nat.le_of_ble_eq_true rfl)
abbrev rm_J4_length : Room := { frames := 0, cells := 0, slots := 0, locals := 0 }
set_option maxHeartbeats 4000000 in
theorem j4_length {lx : Launch} {g : GP} {h : AH} (htr : lx.stackTraces = false) {a b : Nat} {m n : Int32} (ha : h a = some (eO 14 [.ref b, .int 0, .int m, .int n])) : KT lx g yJ4_length (ws_ yJ4_length cJ4_length 1 (some .int)) rm_J4_length 0 0 [.ref a] h (isP (.int n) h) (noX) := by
  refine KT.of (by decide +kernel) htr (Nat.le_of_ble_eq_true rfl) (L0 := [some (.ref a)]) rfl ?_
  intro M cx hl9 hq hin hnx
  refine a_aload_n cx dJ4_length_0 rfl ?_
  refine a_get cx fl_J4_79.g dJ4_length_1 (by assumption) (by exact rfl) ?_
  exact a_iret cx hq dJ4_length_4 ⟨rfl, rfl⟩ (Nat.le_of_ble_eq_true rfl) (Nat.le_of_ble_eq_true rfl)
abbrev rm_J4_getValue : Room := { frames := 0, cells := 0, slots := 0, locals := 0 }
set_option maxHeartbeats 4000000 in
theorem j4_getValue {lx : Launch} {g : GP} {h : AH} (htr : lx.stackTraces = false) {a b : Nat} {m n : Int32} (ha : h a = some (eO 14 [.ref b, .int 0, .int m, .int n])) : KT lx g yJ4_getValue (ws_ yJ4_getValue cJ4_getValue 1 (some (.array .byte))) rm_J4_getValue 0 0 [.ref a] h (isP (.ref b) h) (noX) := by
  refine KT.of (by decide +kernel) htr (Nat.le_of_ble_eq_true rfl) (L0 := [some (.ref a)]) rfl ?_
  intro M cx hl9 hq hin hnx
  refine a_aload_n cx dJ4_getValue_0 rfl ?_
  refine a_get cx fl_J4_15.g dJ4_getValue_1 (by assumption) (by exact rfl) ?_
  exact a_aret cx hq dJ4_getValue_4 (Or.inr ⟨_, rfl⟩) ⟨rfl, rfl⟩ (Nat.le_of_ble_eq_true rfl) (Nat.le_of_ble_eq_true rfl)
abbrev rm_J18_canEncode : Room := { frames := 0, cells := 0, slots := 0, locals := 0 }
set_option maxHeartbeats 4000000 in
theorem j18_canEncode {lx : Launch} {g : GP} {h : AH} (htr : lx.stackTraces = false) {c : Nat} (hc : c < 128) : KT lx g yJ18_canEncode (ws_ yJ18_canEncode cJ18_canEncode 1 (some .boolean)) rm_J18_canEncode 0 0 [.int (nI c)] h (isP (.int 1) h) (noX) := by
  refine KT.of (by decide +kernel) htr (Nat.le_of_ble_eq_true rfl) (L0 := [some (.int (nI c))]) rfl ?_
  intro M cx hl9 hq hin hnx
  refine a_iload_n cx dJ18_canEncode_0 rfl ?_
  refine a_sipush cx (v := 255) dJ18_canEncode_1 (by decide) ?_
  refine a_icmp_gt cx (tgt := 11) dJ18_canEncode_4 (by decide) (fun c4 => absurd c4 (by intro q; have := lt_nI (a := 255) q (by omega) (by omega); omega)) (fun c4 => ?_)
  refine a_iconst cx (v := 1) dJ18_canEncode_7 (by decide) ?_
  refine a_goto cx (tgt := 12) dJ18_canEncode_8 (by decide) ?_
  exact a_zret cx hq dJ18_canEncode_12 rfl ⟨rfl, rfl⟩ (Nat.le_of_ble_eq_true rfl) (Nat.le_of_ble_eq_true rfl)
abbrev rm_J4_inflateIfNeededFor : Room := { frames := 1, cells := 0, slots := 0, locals := 20 }
set_option maxHeartbeats 4000000 in
theorem j4_inflateIfNeededFor {lx : Launch} {g : GP} {h : AH} (htr : lx.stackTraces = false) {a b : Nat} {m n : Int32} (ha : h a = some (eO 14 [.ref b, .int 0, .int m, .int n])) {t tb : Nat} {hs hz : Int32} (ht : h t = some (eO 15 [.ref tb, .int 0, .int hs, .int hz])) : KT lx g yJ4_inflateIfNeededFor (ws_ yJ4_inflateIfNeededFor cJ4_inflateIfNeededFor 2 none) rm_J4_inflateIfNeededFor 0 0 [.ref a, .ref t] h (fun v h' => v = none ∧ h' = h) (noX) := by
  refine KT.of (by decide +kernel) htr (Nat.le_of_ble_eq_true rfl) (L0 := [some (.ref a), some (.ref t)]) rfl ?_
  intro M cx hl9 hq hin hnx
  refine a_gets cx cx.hG.cst q220 dJ4_inflateIfNeededFor_0 ?_
  refine a_if_eq cx (tgt := 21) dJ4_inflateIfNeededFor_3 (by decide) (fun c3 => absurd c3 (by decide)) (fun c3 => ?_)
  refine a_aload_n cx dJ4_inflateIfNeededFor_6 rfl ?_
  refine a_get cx fl_J4_22.g dJ4_inflateIfNeededFor_7 (by assumption) (by exact rfl) ?_
  refine a_aload_n cx dJ4_inflateIfNeededFor_10 rfl ?_
  refine c_Vp cx (j6_coder cx.htr ht) (lw_V q892 q880 q881 q85 q882) dn_J6_coder (RN.of rfl rfl rfl rfl) rfl (by assumption) rfl rfl rfl (Nat.le_of_ble_eq_true rfl) dJ4_inflateIfNeededFor_11 (Nat.le_of_ble_eq_true rfl) (Nat.le_of_ble_eq_true rfl) ?_
  refine a_icmp_eq cx (tgt := 21) dJ4_inflateIfNeededFor_14 (by decide) (fun c14 => ?_) (fun c14 => absurd rfl c14)
  exact a_vret cx hq dJ4_inflateIfNeededFor_21 ⟨rfl, rfl⟩ (Nat.le_of_ble_eq_true rfl) (Nat.le_of_ble_eq_true rfl)
