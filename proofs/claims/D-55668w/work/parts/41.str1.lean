/-! STRINGS -/
set_option maxRecDepth 100000
abbrev rm_J14_checkIndexn : Room := { frames := 0, cells := 0, slots := 0, locals := 0 }
set_option maxHeartbeats 4000000 in
theorem j14_checkIndexn {lx : Launch} {g : GP} {h : AH} (htr : lx.stackTraces = false) {i n v : Nat} (hi : i < n) (hn : n < 2 ^ 31) : KT lx g yJ14_checkIndex (ws_ yJ14_checkIndex cJ14_checkIndex 3 (some .int)) rm_J14_checkIndexn 0 0 [.int (nI i), .int (nI n), .null] h (isP (.int (nI i)) h) (noX) := by
  refine KT.of (by decide +kernel) htr (Nat.le_of_ble_eq_true rfl) (L0 := [some (.int (nI i)), some (.int (nI n)), some (.null)]) rfl ?_
  intro M cx hl9 hq hin hnx
  refine a_iload_n cx dJ14_checkIndex_0 rfl ?_
  refine a_if_lt cx (tgt := 9) dJ14_checkIndex_1 (by decide) (fun c1 => absurd c1 (nI_pos (by omega))) (fun c1 => ?_)
  refine a_iload_n cx dJ14_checkIndex_4 rfl ?_
  refine a_iload_n cx dJ14_checkIndex_5 rfl ?_
  refine a_icmp_lt cx (tgt := 16) dJ14_checkIndex_6 (by decide) (fun c6 => ?_) (fun c6 => absurd (nI_lt hi (by omega)) c6)
  refine a_iload_n cx dJ14_checkIndex_16 rfl ?_
  exact a_iret cx hq dJ14_checkIndex_17 ⟨rfl, rfl⟩ (Nat.le_of_ble_eq_true rfl) (Nat.le_of_ble_eq_true rfl)
abbrev rm_J14_checkIndexr : Room := { frames := 0, cells := 0, slots := 0, locals := 0 }
set_option maxHeartbeats 4000000 in
theorem j14_checkIndexr {lx : Launch} {g : GP} {h : AH} (htr : lx.stackTraces = false) {i n v : Nat} (hi : i < n) (hn : n < 2 ^ 31) : KT lx g yJ14_checkIndex (ws_ yJ14_checkIndex cJ14_checkIndex 3 (some .int)) rm_J14_checkIndexr 0 0 [.int (nI i), .int (nI n), .ref v] h (isP (.int (nI i)) h) (noX) := by
  refine KT.of (by decide +kernel) htr (Nat.le_of_ble_eq_true rfl) (L0 := [some (.int (nI i)), some (.int (nI n)), some (.ref v)]) rfl ?_
  intro M cx hl9 hq hin hnx
  refine a_iload_n cx dJ14_checkIndex_0 rfl ?_
  refine a_if_lt cx (tgt := 9) dJ14_checkIndex_1 (by decide) (fun c1 => absurd c1 (nI_pos (by omega))) (fun c1 => ?_)
  refine a_iload_n cx dJ14_checkIndex_4 rfl ?_
  refine a_iload_n cx dJ14_checkIndex_5 rfl ?_
  refine a_icmp_lt cx (tgt := 16) dJ14_checkIndex_6 (by decide) (fun c6 => ?_) (fun c6 => absurd (nI_lt hi (by omega)) c6)
  refine a_iload_n cx dJ14_checkIndex_16 rfl ?_
  exact a_iret cx hq dJ14_checkIndex_17 ⟨rfl, rfl⟩ (Nat.le_of_ble_eq_true rfl) (Nat.le_of_ble_eq_true rfl)
theorem j14_checkIndex {l : Launch} {g : GP} {h : AH} {v : Value} (htr : l.stackTraces = false) {i n : Nat} (hv : isR v = true) (hi : i < n) (hn : n < 2 ^ 31) : KT l g yJ14_checkIndex (ws_ yJ14_checkIndex cJ14_checkIndex 3 (some .int)) rm_J14_checkIndexr 0 0 [.int (nI i), .int (nI n), v] h (isP (.int (nI i)) h) noX := by
  rcases isR.or hv with rfl | ⟨a, rfl⟩
  · exact j14_checkIndexn (v := 0) htr hi hn
  · exact j14_checkIndexr htr hi hn
abbrev rm_J6_checkIndex : Room := { frames := 1, cells := 0, slots := 0, locals := 22 }
set_option maxHeartbeats 4000000 in
theorem j6_checkIndex {lx : Launch} {g : GP} {h : AH} (htr : lx.stackTraces = false) {i n : Nat} (hi : i < n) (hn : n < 2 ^ 31) : KT lx g yJ6_checkIndex (ws_ yJ6_checkIndex cJ6_checkIndex 2 none) rm_J6_checkIndex 0 0 [.int (nI i), .int (nI n)] h (fun v h' => v = none ∧ h' = h) (noX) := by
  refine KT.of (by decide +kernel) htr (Nat.le_of_ble_eq_true rfl) (L0 := [some (.int (nI i)), some (.int (nI n))]) rfl ?_
  intro M cx hl9 hq hin hnx
  refine a_iload_n cx dJ6_checkIndex_0 rfl ?_
  refine a_iload_n cx dJ6_checkIndex_1 rfl ?_
  refine a_getsq cx cx.hG.sio q861 dJ6_checkIndex_2 (fun v2 i2 => ?_)
  refine c_Sp cx (j14_checkIndex cx.htr i2 hi hn) (lw_S q1639 q433 q94 q434) dn_J14_checkIndex (RN.of rfl rfl rfl rfl) rfl rfl (Nat.le_of_ble_eq_true rfl) dJ6_checkIndex_5 (Nat.le_of_ble_eq_true rfl) (Nat.le_of_ble_eq_true rfl) ?_
  refine a_pop cx dJ6_checkIndex_8 rfl ?_
  exact a_vret cx hq dJ6_checkIndex_9 ⟨rfl, rfl⟩ (Nat.le_of_ble_eq_true rfl) (Nat.le_of_ble_eq_true rfl)
abbrev rm_J6_coder : Room := { frames := 0, cells := 0, slots := 0, locals := 0 }
set_option maxHeartbeats 4000000 in
theorem j6_coder {lx : Launch} {g : GP} {h : AH} (htr : lx.stackTraces = false) {a b : Nat} {hs hz : Int32} (ha : h a = some (eO 15 [.ref b, .int 0, .int hs, .int hz])) : KT lx g yJ6_coder (ws_ yJ6_coder cJ6_coder 1 (some .byte)) rm_J6_coder 0 0 [.ref a] h (isP (.int 0) h) (noX) := by
  refine KT.of (by decide +kernel) htr (Nat.le_of_ble_eq_true rfl) (L0 := [some (.ref a)]) rfl ?_
  intro M cx hl9 hq hin hnx
  refine a_gets cx cx.hG.cst q883 dJ6_coder_0 ?_
  refine a_if_eq cx (tgt := 13) dJ6_coder_3 (by decide) (fun c3 => absurd c3 (by decide)) (fun c3 => ?_)
  refine a_aload_n cx dJ6_coder_6 rfl ?_
  refine a_get cx fl_J6_15.g dJ6_coder_7 (by assumption) (by exact rfl) ?_
  refine a_goto cx (tgt := 14) dJ6_coder_10 (by decide) ?_
  exact a_zret cx hq dJ6_coder_14 rfl ⟨rfl, rfl⟩ (Nat.le_of_ble_eq_true rfl) (Nat.le_of_ble_eq_true rfl)
abbrev rm_J6_isLatin1 : Room := { frames := 0, cells := 0, slots := 0, locals := 0 }
set_option maxHeartbeats 4000000 in
theorem j6_isLatin1 {lx : Launch} {g : GP} {h : AH} (htr : lx.stackTraces = false) {a b : Nat} {hs hz : Int32} (ha : h a = some (eO 15 [.ref b, .int 0, .int hs, .int hz])) : KT lx g yJ6_isLatin1 (ws_ yJ6_isLatin1 cJ6_isLatin1 1 (some .boolean)) rm_J6_isLatin1 0 0 [.ref a] h (isP (.int 1) h) (noX) := by
  refine KT.of (by decide +kernel) htr (Nat.le_of_ble_eq_true rfl) (L0 := [some (.ref a)]) rfl ?_
  intro M cx hl9 hq hin hnx
  refine a_gets cx cx.hG.cst q883 dJ6_isLatin1_0 ?_
  refine a_if_eq cx (tgt := 17) dJ6_isLatin1_3 (by decide) (fun c3 => absurd c3 (by decide)) (fun c3 => ?_)
  refine a_aload_n cx dJ6_isLatin1_6 rfl ?_
  refine a_get cx fl_J6_15.g dJ6_isLatin1_7 (by assumption) (by exact rfl) ?_
  refine a_if_ne cx (tgt := 17) dJ6_isLatin1_10 (by decide) (fun c10 => absurd rfl c10) (fun c10 => ?_)
  refine a_iconst cx (v := 1) dJ6_isLatin1_13 (by decide) ?_
  refine a_goto cx (tgt := 18) dJ6_isLatin1_14 (by decide) ?_
  exact a_zret cx hq dJ6_isLatin1_18 rfl ⟨rfl, rfl⟩ (Nat.le_of_ble_eq_true rfl) (Nat.le_of_ble_eq_true rfl)
abbrev rm_J6_length : Room := { frames := 1, cells := 0, slots := 0, locals := 20 }
set_option maxHeartbeats 4000000 in
theorem j6_length {lx : Launch} {g : GP} {h : AH} (htr : lx.stackTraces = false) {a : Nat} {s : List Nat} (hS : StrAt g h a s) : KT lx g yJ6_length (ws_ yJ6_length cJ6_length 1 (some .int)) rm_J6_length 0 0 [.ref a] h (isP (.int (nI s.length)) h) (noX) := by
  refine KT.of (by decide +kernel) htr (Nat.le_of_ble_eq_true rfl) (L0 := [some (.ref a)]) rfl ?_
  intro M cx hl9 hq hin hnx
  obtain ⟨b, hs, hz, ha, hb, hh⟩ := hS
  refine a_aload_n cx dJ6_length_0 rfl ?_
  refine a_get cx fl_J6_9.g dJ6_length_1 (by assumption) (by exact rfl) ?_
  refine a_alen1 cx dJ6_length_4 (by assumption) ?_
  refine a_aload_n cx dJ6_length_5 rfl ?_
  refine c_Vp cx (j6_coder cx.htr ha) (lw_V q879 q880 q881 q85 q882) dn_J6_coder (RN.of rfl rfl rfl rfl) rfl (by assumption) rfl rfl rfl (Nat.le_of_ble_eq_true rfl) dJ6_length_6 (Nat.le_of_ble_eq_true rfl) (Nat.le_of_ble_eq_true rfl) ?_
  refine a_ishr cx dJ6_length_9 ?_
  refine AW.topi (shr0 _) ?_
  exact a_iret cx hq dJ6_length_10 ⟨rfl, rfl⟩ (Nat.le_of_ble_eq_true rfl) (Nat.le_of_ble_eq_true rfl)
abbrev rm_J18_charAt : Room := { frames := 2, cells := 0, slots := 0, locals := 43 }
set_option maxHeartbeats 4000000 in
theorem j18_charAt {lx : Launch} {g : GP} {h : AH} (htr : lx.stackTraces = false) {b i : Nat} {s : List Nat} (hb : h b = some (eI (g.2.1 1) s.length (sCh s))) (hs : asc s) (hi : i < s.length) : KT lx g yJ18_charAt (ws_ yJ18_charAt cJ18_charAt 2 (some .char)) rm_J18_charAt 0 0 [.ref b, .int (nI i)] h (isP (.int (nI (s.getD i 0))) h) (noX) := by
  refine KT.of (by decide +kernel) htr (Nat.le_of_ble_eq_true rfl) (L0 := [some (.ref b), some (.int (nI i))]) rfl ?_
  intro M cx hl9 hq hin hnx
  refine a_iload_n cx dJ18_charAt_0 rfl ?_
  refine a_aload_n cx dJ18_charAt_1 rfl ?_
  refine a_alen1 cx dJ18_charAt_2 (by assumption) ?_
  refine c_S cx (j6_checkIndex cx.htr hi (by have := hs.1; omega)) (lw_S q1656 q1637 q85 q1638) dn_J6_checkIndex (RN.of rfl rfl rfl rfl) rfl rfl (Nat.le_of_ble_eq_true rfl) dJ18_charAt_3 (Nat.le_of_ble_eq_true rfl) (Nat.le_of_ble_eq_true rfl) (fun v9 h hp9 => ?_) (fun E9 q9 h9 hx9 => hx9.elim)
  obtain ⟨rfl, rfl⟩ := hp9
  refine a_aload_n cx dJ18_charAt_6 rfl ?_
  refine a_iload_n cx dJ18_charAt_7 rfl ?_
  refine a_bald cx dJ18_charAt_8 (by assumption) rfl hi (by have := hs.1; omega) ?_
  refine a_sipush cx (v := 255) dJ18_charAt_9 (by decide) ?_
  refine a_iand cx dJ18_charAt_12 ?_
  refine AW.topi (sb_255 _ hs.at) ?_
  refine a_i2c cx dJ18_charAt_13 (c_nat _ hs.at).1 ?_
  exact a_zret cx hq dJ18_charAt_14 (c_nat _ hs.at).2 ⟨rfl, rfl⟩ (Nat.le_of_ble_eq_true rfl) (Nat.le_of_ble_eq_true rfl)
abbrev rm_J6_charAt : Room := { frames := 3, cells := 0, slots := 0, locals := 64 }
set_option maxHeartbeats 4000000 in
theorem j6_charAt {lx : Launch} {g : GP} {h : AH} (htr : lx.stackTraces = false) {a i : Nat} {s : List Nat} (hS : StrAt g h a s) (hs : asc s) (hi : i < s.length) : KT lx g yJ6_charAt (ws_ yJ6_charAt cJ6_charAt 2 (some .char)) rm_J6_charAt 0 0 [.ref a, .int (nI i)] h (isP (.int (nI (s.getD i 0))) h) (noX) := by
  refine KT.of (by decide +kernel) htr (Nat.le_of_ble_eq_true rfl) (L0 := [some (.ref a), some (.int (nI i))]) rfl ?_
  intro M cx hl9 hq hin hnx
  obtain ⟨b, hs9, hz, ha, hb, hh⟩ := hS
  refine a_aload_n cx dJ6_charAt_0 rfl ?_
  refine c_Vp cx (j6_isLatin1 cx.htr ha) (lw_V q1076 q1077 q1078 q85 q1079) dn_J6_isLatin1 (RN.of rfl rfl rfl rfl) rfl (by assumption) rfl rfl rfl (Nat.le_of_ble_eq_true rfl) dJ6_charAt_1 (Nat.le_of_ble_eq_true rfl) (Nat.le_of_ble_eq_true rfl) ?_
  refine a_if_eq cx (tgt := 16) dJ6_charAt_4 (by decide) (fun c4 => absurd c4 (by decide)) (fun c4 => ?_)
  refine a_aload_n cx dJ6_charAt_7 rfl ?_
  refine a_get cx fl_J6_9.g dJ6_charAt_8 (by assumption) (by exact rfl) ?_
  refine a_iload_n cx dJ6_charAt_11 rfl ?_
  refine c_Sp cx (j18_charAt cx.htr hb hs hi) (lw_S q1653 q1654 q102 q1655) dn_J18_charAt (RN.of rfl rfl rfl rfl) rfl rfl (Nat.le_of_ble_eq_true rfl) dJ6_charAt_12 (Nat.le_of_ble_eq_true rfl) (Nat.le_of_ble_eq_true rfl) ?_
  exact a_zret cx hq dJ6_charAt_15 (c_nat _ hs.at).2 ⟨rfl, rfl⟩ (Nat.le_of_ble_eq_true rfl) (Nat.le_of_ble_eq_true rfl)
