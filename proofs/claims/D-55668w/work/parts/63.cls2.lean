/-! DISTANCES -/
set_option maxRecDepth 100000
abbrev rm_X8_distancesh : Room := { frames := 1, cells := 0, slots := 0, locals := 20 }
set_option maxHeartbeats 4000000 in
theorem f8_distancesh {lx : Launch} {g : GP} {h : AH} (htr : lx.stackTraces = false) {a b : Nat} {x1 y1 w1 u1 x2 y2 w2 u2 : Int32} (ha : h a = some (shE x1 y1 w1 u1)) (hb : h b = some (huE x2 y2)) : KT lx g yX8_distance (ws_ yX8_distance cX8_distance 4 (some .int)) rm_X8_distancesh 0 0 [.ref a, .ref b] h (isP (.int ((x1 - x2) * (x1 - x2) + (y1 - y2) * (y1 - y2))) h) (noX) := by
  refine KT.of (by decide +kernel) htr (Nat.le_of_ble_eq_true rfl) (L0 := [some (.ref a), some (.ref b), none, none]) rfl ?_
  intro M cx hl9 hq hin hnx
  refine a_aload_n cx dX8_distance_0 rfl ?_
  refine c_F cx (f4_x cx.htr ha) (lw_F q650 q590 q592 q95 q594) (by decide +kernel) ⟨by decide, by decide, by decide +kernel⟩ (RN.of rfl rfl rfl rfl) rfl (by assumption) rfl rfl rfl (Nat.le_of_ble_eq_true rfl) dX8_distance_1 (Nat.le_of_ble_eq_true rfl) (Nat.le_of_ble_eq_true rfl) (fun v9 h hp9 => ?_) (fun E9 q9 h9 hx9 => hx9.elim)
  obtain ⟨rfl, rfl⟩ := hp9
  refine a_aload_n cx dX8_distance_6 rfl ?_
  refine c_F cx (f5_x cx.htr hb) (lw_F q650 q578 q580 q100 q582) (by decide +kernel) ⟨by decide, by decide, by decide +kernel⟩ (RN.of rfl rfl rfl rfl) rfl (by assumption) rfl rfl rfl (Nat.le_of_ble_eq_true rfl) dX8_distance_7 (Nat.le_of_ble_eq_true rfl) (Nat.le_of_ble_eq_true rfl) (fun v9 h hp9 => ?_) (fun E9 q9 h9 hx9 => hx9.elim)
  obtain ⟨rfl, rfl⟩ := hp9
  refine a_isub cx dX8_distance_12 ?_
  refine a_istore_n cx dX8_distance_13 (Nat.le_of_ble_eq_true rfl) rfl ?_
  refine a_aload_n cx dX8_distance_14 rfl ?_
  refine c_F cx (f4_y cx.htr ha) (lw_F q652 q609 q611 q95 q613) (by decide +kernel) ⟨by decide, by decide, by decide +kernel⟩ (RN.of rfl rfl rfl rfl) rfl (by assumption) rfl rfl rfl (Nat.le_of_ble_eq_true rfl) dX8_distance_15 (Nat.le_of_ble_eq_true rfl) (Nat.le_of_ble_eq_true rfl) (fun v9 h hp9 => ?_) (fun E9 q9 h9 hx9 => hx9.elim)
  obtain ⟨rfl, rfl⟩ := hp9
  refine a_aload_n cx dX8_distance_20 rfl ?_
  refine c_F cx (f5_y cx.htr hb) (lw_F q652 q599 q601 q100 q603) (by decide +kernel) ⟨by decide, by decide, by decide +kernel⟩ (RN.of rfl rfl rfl rfl) rfl (by assumption) rfl rfl rfl (Nat.le_of_ble_eq_true rfl) dX8_distance_21 (Nat.le_of_ble_eq_true rfl) (Nat.le_of_ble_eq_true rfl) (fun v9 h hp9 => ?_) (fun E9 q9 h9 hx9 => hx9.elim)
  obtain ⟨rfl, rfl⟩ := hp9
  refine a_isub cx dX8_distance_26 ?_
  refine a_istore_n cx dX8_distance_27 (Nat.le_of_ble_eq_true rfl) rfl ?_
  refine a_iload_n cx dX8_distance_28 rfl ?_
  refine a_iload_n cx dX8_distance_29 rfl ?_
  refine a_imul cx dX8_distance_30 ?_
  refine a_iload_n cx dX8_distance_31 rfl ?_
  refine a_iload_n cx dX8_distance_32 rfl ?_
  refine a_imul cx dX8_distance_33 ?_
  refine a_iadd cx dX8_distance_34 ?_
  exact a_iret cx hq dX8_distance_35 ⟨rfl, rfl⟩ (Nat.le_of_ble_eq_true rfl) (Nat.le_of_ble_eq_true rfl)
abbrev rm_X8_distanceph : Room := { frames := 1, cells := 0, slots := 0, locals := 20 }
set_option maxHeartbeats 4000000 in
theorem f8_distanceph {lx : Launch} {g : GP} {h : AH} (htr : lx.stackTraces = false) {a b : Nat} {x1 y1 w1 u1 x2 y2 w2 u2 : Int32} (ha : h a = some (plE x1 y1)) (hb : h b = some (huE x2 y2)) : KT lx g yX8_distance (ws_ yX8_distance cX8_distance 4 (some .int)) rm_X8_distanceph 0 0 [.ref a, .ref b] h (isP (.int ((x1 - x2) * (x1 - x2) + (y1 - y2) * (y1 - y2))) h) (noX) := by
  refine KT.of (by decide +kernel) htr (Nat.le_of_ble_eq_true rfl) (L0 := [some (.ref a), some (.ref b), none, none]) rfl ?_
  intro M cx hl9 hq hin hnx
  refine a_aload_n cx dX8_distance_0 rfl ?_
  refine c_F cx (f9_x cx.htr ha) (lw_F q650 q584 q586 q108 q588) (by decide +kernel) ⟨by decide, by decide, by decide +kernel⟩ (RN.of rfl rfl rfl rfl) rfl (by assumption) rfl rfl rfl (Nat.le_of_ble_eq_true rfl) dX8_distance_1 (Nat.le_of_ble_eq_true rfl) (Nat.le_of_ble_eq_true rfl) (fun v9 h hp9 => ?_) (fun E9 q9 h9 hx9 => hx9.elim)
  obtain ⟨rfl, rfl⟩ := hp9
  refine a_aload_n cx dX8_distance_6 rfl ?_
  refine c_F cx (f5_x cx.htr hb) (lw_F q650 q578 q580 q100 q582) (by decide +kernel) ⟨by decide, by decide, by decide +kernel⟩ (RN.of rfl rfl rfl rfl) rfl (by assumption) rfl rfl rfl (Nat.le_of_ble_eq_true rfl) dX8_distance_7 (Nat.le_of_ble_eq_true rfl) (Nat.le_of_ble_eq_true rfl) (fun v9 h hp9 => ?_) (fun E9 q9 h9 hx9 => hx9.elim)
  obtain ⟨rfl, rfl⟩ := hp9
  refine a_isub cx dX8_distance_12 ?_
  refine a_istore_n cx dX8_distance_13 (Nat.le_of_ble_eq_true rfl) rfl ?_
  refine a_aload_n cx dX8_distance_14 rfl ?_
  refine c_F cx (f9_y cx.htr ha) (lw_F q652 q604 q606 q108 q608) (by decide +kernel) ⟨by decide, by decide, by decide +kernel⟩ (RN.of rfl rfl rfl rfl) rfl (by assumption) rfl rfl rfl (Nat.le_of_ble_eq_true rfl) dX8_distance_15 (Nat.le_of_ble_eq_true rfl) (Nat.le_of_ble_eq_true rfl) (fun v9 h hp9 => ?_) (fun E9 q9 h9 hx9 => hx9.elim)
  obtain ⟨rfl, rfl⟩ := hp9
  refine a_aload_n cx dX8_distance_20 rfl ?_
  refine c_F cx (f5_y cx.htr hb) (lw_F q652 q599 q601 q100 q603) (by decide +kernel) ⟨by decide, by decide, by decide +kernel⟩ (RN.of rfl rfl rfl rfl) rfl (by assumption) rfl rfl rfl (Nat.le_of_ble_eq_true rfl) dX8_distance_21 (Nat.le_of_ble_eq_true rfl) (Nat.le_of_ble_eq_true rfl) (fun v9 h hp9 => ?_) (fun E9 q9 h9 hx9 => hx9.elim)
  obtain ⟨rfl, rfl⟩ := hp9
  refine a_isub cx dX8_distance_26 ?_
  refine a_istore_n cx dX8_distance_27 (Nat.le_of_ble_eq_true rfl) rfl ?_
  refine a_iload_n cx dX8_distance_28 rfl ?_
  refine a_iload_n cx dX8_distance_29 rfl ?_
  refine a_imul cx dX8_distance_30 ?_
  refine a_iload_n cx dX8_distance_31 rfl ?_
  refine a_iload_n cx dX8_distance_32 rfl ?_
  refine a_imul cx dX8_distance_33 ?_
  refine a_iadd cx dX8_distance_34 ?_
  exact a_iret cx hq dX8_distance_35 ⟨rfl, rfl⟩ (Nat.le_of_ble_eq_true rfl) (Nat.le_of_ble_eq_true rfl)
abbrev rm_X8_distancehh : Room := { frames := 1, cells := 0, slots := 0, locals := 20 }
set_option maxHeartbeats 4000000 in
theorem f8_distancehh {lx : Launch} {g : GP} {h : AH} (htr : lx.stackTraces = false) {a b : Nat} {x1 y1 w1 u1 x2 y2 w2 u2 : Int32} (ha : h a = some (huE x1 y1)) (hb : h b = some (huE x2 y2)) : KT lx g yX8_distance (ws_ yX8_distance cX8_distance 4 (some .int)) rm_X8_distancehh 0 0 [.ref a, .ref b] h (isP (.int ((x1 - x2) * (x1 - x2) + (y1 - y2) * (y1 - y2))) h) (noX) := by
  refine KT.of (by decide +kernel) htr (Nat.le_of_ble_eq_true rfl) (L0 := [some (.ref a), some (.ref b), none, none]) rfl ?_
  intro M cx hl9 hq hin hnx
  refine a_aload_n cx dX8_distance_0 rfl ?_
  refine c_F cx (f5_x cx.htr ha) (lw_F q650 q578 q580 q100 q582) (by decide +kernel) ⟨by decide, by decide, by decide +kernel⟩ (RN.of rfl rfl rfl rfl) rfl (by assumption) rfl rfl rfl (Nat.le_of_ble_eq_true rfl) dX8_distance_1 (Nat.le_of_ble_eq_true rfl) (Nat.le_of_ble_eq_true rfl) (fun v9 h hp9 => ?_) (fun E9 q9 h9 hx9 => hx9.elim)
  obtain ⟨rfl, rfl⟩ := hp9
  refine a_aload_n cx dX8_distance_6 rfl ?_
  refine c_F cx (f5_x cx.htr hb) (lw_F q650 q578 q580 q100 q582) (by decide +kernel) ⟨by decide, by decide, by decide +kernel⟩ (RN.of rfl rfl rfl rfl) rfl (by assumption) rfl rfl rfl (Nat.le_of_ble_eq_true rfl) dX8_distance_7 (Nat.le_of_ble_eq_true rfl) (Nat.le_of_ble_eq_true rfl) (fun v9 h hp9 => ?_) (fun E9 q9 h9 hx9 => hx9.elim)
  obtain ⟨rfl, rfl⟩ := hp9
  refine a_isub cx dX8_distance_12 ?_
  refine a_istore_n cx dX8_distance_13 (Nat.le_of_ble_eq_true rfl) rfl ?_
  refine a_aload_n cx dX8_distance_14 rfl ?_
  refine c_F cx (f5_y cx.htr ha) (lw_F q652 q599 q601 q100 q603) (by decide +kernel) ⟨by decide, by decide, by decide +kernel⟩ (RN.of rfl rfl rfl rfl) rfl (by assumption) rfl rfl rfl (Nat.le_of_ble_eq_true rfl) dX8_distance_15 (Nat.le_of_ble_eq_true rfl) (Nat.le_of_ble_eq_true rfl) (fun v9 h hp9 => ?_) (fun E9 q9 h9 hx9 => hx9.elim)
  obtain ⟨rfl, rfl⟩ := hp9
  refine a_aload_n cx dX8_distance_20 rfl ?_
  refine c_F cx (f5_y cx.htr hb) (lw_F q652 q599 q601 q100 q603) (by decide +kernel) ⟨by decide, by decide, by decide +kernel⟩ (RN.of rfl rfl rfl rfl) rfl (by assumption) rfl rfl rfl (Nat.le_of_ble_eq_true rfl) dX8_distance_21 (Nat.le_of_ble_eq_true rfl) (Nat.le_of_ble_eq_true rfl) (fun v9 h hp9 => ?_) (fun E9 q9 h9 hx9 => hx9.elim)
  obtain ⟨rfl, rfl⟩ := hp9
  refine a_isub cx dX8_distance_26 ?_
  refine a_istore_n cx dX8_distance_27 (Nat.le_of_ble_eq_true rfl) rfl ?_
  refine a_iload_n cx dX8_distance_28 rfl ?_
  refine a_iload_n cx dX8_distance_29 rfl ?_
  refine a_imul cx dX8_distance_30 ?_
  refine a_iload_n cx dX8_distance_31 rfl ?_
  refine a_iload_n cx dX8_distance_32 rfl ?_
  refine a_imul cx dX8_distance_33 ?_
  refine a_iadd cx dX8_distance_34 ?_
  exact a_iret cx hq dX8_distance_35 ⟨rfl, rfl⟩ (Nat.le_of_ble_eq_true rfl) (Nat.le_of_ble_eq_true rfl)
abbrev rm_X8_distancehp : Room := { frames := 1, cells := 0, slots := 0, locals := 20 }
set_option maxHeartbeats 4000000 in
theorem f8_distancehp {lx : Launch} {g : GP} {h : AH} (htr : lx.stackTraces = false) {a b : Nat} {x1 y1 w1 u1 x2 y2 w2 u2 : Int32} (ha : h a = some (huE x1 y1)) (hb : h b = some (plE x2 y2)) : KT lx g yX8_distance (ws_ yX8_distance cX8_distance 4 (some .int)) rm_X8_distancehp 0 0 [.ref a, .ref b] h (isP (.int ((x1 - x2) * (x1 - x2) + (y1 - y2) * (y1 - y2))) h) (noX) := by
  refine KT.of (by decide +kernel) htr (Nat.le_of_ble_eq_true rfl) (L0 := [some (.ref a), some (.ref b), none, none]) rfl ?_
  intro M cx hl9 hq hin hnx
  refine a_aload_n cx dX8_distance_0 rfl ?_
  refine c_F cx (f5_x cx.htr ha) (lw_F q650 q578 q580 q100 q582) (by decide +kernel) ⟨by decide, by decide, by decide +kernel⟩ (RN.of rfl rfl rfl rfl) rfl (by assumption) rfl rfl rfl (Nat.le_of_ble_eq_true rfl) dX8_distance_1 (Nat.le_of_ble_eq_true rfl) (Nat.le_of_ble_eq_true rfl) (fun v9 h hp9 => ?_) (fun E9 q9 h9 hx9 => hx9.elim)
  obtain ⟨rfl, rfl⟩ := hp9
  refine a_aload_n cx dX8_distance_6 rfl ?_
  refine c_F cx (f9_x cx.htr hb) (lw_F q650 q584 q586 q108 q588) (by decide +kernel) ⟨by decide, by decide, by decide +kernel⟩ (RN.of rfl rfl rfl rfl) rfl (by assumption) rfl rfl rfl (Nat.le_of_ble_eq_true rfl) dX8_distance_7 (Nat.le_of_ble_eq_true rfl) (Nat.le_of_ble_eq_true rfl) (fun v9 h hp9 => ?_) (fun E9 q9 h9 hx9 => hx9.elim)
  obtain ⟨rfl, rfl⟩ := hp9
  refine a_isub cx dX8_distance_12 ?_
  refine a_istore_n cx dX8_distance_13 (Nat.le_of_ble_eq_true rfl) rfl ?_
  refine a_aload_n cx dX8_distance_14 rfl ?_
  refine c_F cx (f5_y cx.htr ha) (lw_F q652 q599 q601 q100 q603) (by decide +kernel) ⟨by decide, by decide, by decide +kernel⟩ (RN.of rfl rfl rfl rfl) rfl (by assumption) rfl rfl rfl (Nat.le_of_ble_eq_true rfl) dX8_distance_15 (Nat.le_of_ble_eq_true rfl) (Nat.le_of_ble_eq_true rfl) (fun v9 h hp9 => ?_) (fun E9 q9 h9 hx9 => hx9.elim)
  obtain ⟨rfl, rfl⟩ := hp9
  refine a_aload_n cx dX8_distance_20 rfl ?_
  refine c_F cx (f9_y cx.htr hb) (lw_F q652 q604 q606 q108 q608) (by decide +kernel) ⟨by decide, by decide, by decide +kernel⟩ (RN.of rfl rfl rfl rfl) rfl (by assumption) rfl rfl rfl (Nat.le_of_ble_eq_true rfl) dX8_distance_21 (Nat.le_of_ble_eq_true rfl) (Nat.le_of_ble_eq_true rfl) (fun v9 h hp9 => ?_) (fun E9 q9 h9 hx9 => hx9.elim)
  obtain ⟨rfl, rfl⟩ := hp9
  refine a_isub cx dX8_distance_26 ?_
  refine a_istore_n cx dX8_distance_27 (Nat.le_of_ble_eq_true rfl) rfl ?_
  refine a_iload_n cx dX8_distance_28 rfl ?_
  refine a_iload_n cx dX8_distance_29 rfl ?_
  refine a_imul cx dX8_distance_30 ?_
  refine a_iload_n cx dX8_distance_31 rfl ?_
  refine a_iload_n cx dX8_distance_32 rfl ?_
  refine a_imul cx dX8_distance_33 ?_
  refine a_iadd cx dX8_distance_34 ?_
  exact a_iret cx hq dX8_distance_35 ⟨rfl, rfl⟩ (Nat.le_of_ble_eq_true rfl) (Nat.le_of_ble_eq_true rfl)
abbrev rm_X8_isAthh : Room := { frames := 2, cells := 0, slots := 0, locals := 43 }
set_option maxHeartbeats 4000000 in
theorem f8_isAthh {lx : Launch} {g : GP} {h : AH} (htr : lx.stackTraces = false) {a b : Nat} {x1 y1 w1 u1 x2 y2 w2 u2 : Int32} (ha : h a = some (huE x1 y1)) (hb : h b = some (huE x2 y2)) : KT lx g yX8_isAt (ws_ yX8_isAt cX8_isAt 2 (some .boolean)) rm_X8_isAthh 0 0 [.ref a, .ref b] h (isP (.int (bI (decide ((x1 - x2) * (x1 - x2) + (y1 - y2) * (y1 - y2) = 0)))) h) (noX) := by
  refine KT.of (by decide +kernel) htr (Nat.le_of_ble_eq_true rfl) (L0 := [some (.ref a), some (.ref b)]) rfl ?_
  intro M cx hl9 hq hin hnx
  refine a_aload_n cx dX8_isAt_0 rfl ?_
  refine a_aload_n cx dX8_isAt_1 rfl ?_
  refine c_FD (C := "FlockHuts$Hut") cx (f8_distancehh (w1 := w1) (u1 := u1) (w2 := w2) (u2 := u2) cx.htr ha hb) (lw_meth q648) q742 q644 q646 q577 q107 (by decide +kernel) (RN.of rfl rfl rfl rfl) rfl (by assumption) rfl rfl rfl (Nat.le_of_ble_eq_true rfl) dX8_isAt_2 (Nat.le_of_ble_eq_true rfl) (Nat.le_of_ble_eq_true rfl) (fun v9 h hp9 => ?_)
  obtain ⟨rfl, rfl⟩ := hp9
  refine a_if_ne cx (tgt := 14) dX8_isAt_7 (by decide) (fun c7 => ?_) (fun c7 => ?_)
  · have r : bI (decide ((x1 - x2) * (x1 - x2) + (y1 - y2) * (y1 - y2) = 0)) = 0 := bI_f (decide_eq_false c7)
    refine a_iconst cx (v := 0) dX8_isAt_14 (by decide) ?_
    exact a_zret cx hq dX8_isAt_15 rfl ⟨by rw [r], rfl⟩ (Nat.le_of_ble_eq_true rfl) (Nat.le_of_ble_eq_true rfl)
  · have r : bI (decide ((x1 - x2) * (x1 - x2) + (y1 - y2) * (y1 - y2) = 0)) = 1 := bI_t (decide_eq_true c7)
    refine a_iconst cx (v := 1) dX8_isAt_10 (by decide) ?_
    refine a_goto cx (tgt := 15) dX8_isAt_11 (by decide) ?_
    exact a_zret cx hq dX8_isAt_15 rfl ⟨by rw [r], rfl⟩ (Nat.le_of_ble_eq_true rfl) (Nat.le_of_ble_eq_true rfl)
abbrev rm_X8_isAthp : Room := { frames := 2, cells := 0, slots := 0, locals := 43 }
set_option maxHeartbeats 4000000 in
theorem f8_isAthp {lx : Launch} {g : GP} {h : AH} (htr : lx.stackTraces = false) {a b : Nat} {x1 y1 w1 u1 x2 y2 w2 u2 : Int32} (ha : h a = some (huE x1 y1)) (hb : h b = some (plE x2 y2)) : KT lx g yX8_isAt (ws_ yX8_isAt cX8_isAt 2 (some .boolean)) rm_X8_isAthp 0 0 [.ref a, .ref b] h (isP (.int (bI (decide ((x1 - x2) * (x1 - x2) + (y1 - y2) * (y1 - y2) = 0)))) h) (noX) := by
  refine KT.of (by decide +kernel) htr (Nat.le_of_ble_eq_true rfl) (L0 := [some (.ref a), some (.ref b)]) rfl ?_
  intro M cx hl9 hq hin hnx
  refine a_aload_n cx dX8_isAt_0 rfl ?_
  refine a_aload_n cx dX8_isAt_1 rfl ?_
  refine c_FD (C := "FlockHuts$Hut") cx (f8_distancehp (w1 := w1) (u1 := u1) (w2 := w2) (u2 := u2) cx.htr ha hb) (lw_meth q648) q742 q644 q646 q577 q107 (by decide +kernel) (RN.of rfl rfl rfl rfl) rfl (by assumption) rfl rfl rfl (Nat.le_of_ble_eq_true rfl) dX8_isAt_2 (Nat.le_of_ble_eq_true rfl) (Nat.le_of_ble_eq_true rfl) (fun v9 h hp9 => ?_)
  obtain ⟨rfl, rfl⟩ := hp9
  refine a_if_ne cx (tgt := 14) dX8_isAt_7 (by decide) (fun c7 => ?_) (fun c7 => ?_)
  · have r : bI (decide ((x1 - x2) * (x1 - x2) + (y1 - y2) * (y1 - y2) = 0)) = 0 := bI_f (decide_eq_false c7)
    refine a_iconst cx (v := 0) dX8_isAt_14 (by decide) ?_
    exact a_zret cx hq dX8_isAt_15 rfl ⟨by rw [r], rfl⟩ (Nat.le_of_ble_eq_true rfl) (Nat.le_of_ble_eq_true rfl)
  · have r : bI (decide ((x1 - x2) * (x1 - x2) + (y1 - y2) * (y1 - y2) = 0)) = 1 := bI_t (decide_eq_true c7)
    refine a_iconst cx (v := 1) dX8_isAt_10 (by decide) ?_
    refine a_goto cx (tgt := 15) dX8_isAt_11 (by decide) ?_
    exact a_zret cx hq dX8_isAt_15 rfl ⟨by rw [r], rfl⟩ (Nat.le_of_ble_eq_true rfl) (Nat.le_of_ble_eq_true rfl)
