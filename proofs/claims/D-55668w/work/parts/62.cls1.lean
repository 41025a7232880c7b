/-! SHEEP, HUTS, PLACES -/
set_option maxRecDepth 100000
abbrev shE (x y w u : Int32) : va_E := eO 3 [.int (x), .int (y), .int (w), .int (u)]
abbrev huE (x y : Int32) : va_E := eO 4 [.int (x), .int (y)]
abbrev plE (x y : Int32) : va_E := eO 7 [.int (x), .int (y)]
abbrev rm_X4_x : Room := { frames := 0, cells := 0, slots := 0, locals := 0 }
set_option maxHeartbeats 4000000 in
theorem f4_x {lx : Launch} {g : GP} {h : AH} (htr : lx.stackTraces = false) {a : Nat} {x y w u : Int32} (ha : h a = some (shE x y w u)) : KT lx g yX4_x (ws_ yX4_x cX4_x 1 (some .int)) rm_X4_x 0 0 [.ref a] h (isP (.int x) h) (noX) := by
  refine KT.of (by decide +kernel) htr (Nat.le_of_ble_eq_true rfl) (L0 := [some (.ref a)]) rfl ?_
  intro M cx hl9 hq hin hnx
  refine a_aload_n cx dX4_x_0 rfl ?_
  refine a_get cx fl_X4_15.g dX4_x_1 (by assumption) (by exact rfl) ?_
  exact a_iret cx hq dX4_x_4 ⟨rfl, rfl⟩ (Nat.le_of_ble_eq_true rfl) (Nat.le_of_ble_eq_true rfl)
abbrev rm_X4_y : Room := { frames := 0, cells := 0, slots := 0, locals := 0 }
set_option maxHeartbeats 4000000 in
theorem f4_y {lx : Launch} {g : GP} {h : AH} (htr : lx.stackTraces = false) {a : Nat} {x y w u : Int32} (ha : h a = some (shE x y w u)) : KT lx g yX4_y (ws_ yX4_y cX4_y 1 (some .int)) rm_X4_y 0 0 [.ref a] h (isP (.int y) h) (noX) := by
  refine KT.of (by decide +kernel) htr (Nat.le_of_ble_eq_true rfl) (L0 := [some (.ref a)]) rfl ?_
  intro M cx hl9 hq hin hnx
  refine a_aload_n cx dX4_y_0 rfl ?_
  refine a_get cx fl_X4_18.g dX4_y_1 (by assumption) (by exact rfl) ?_
  exact a_iret cx hq dX4_y_4 ⟨rfl, rfl⟩ (Nat.le_of_ble_eq_true rfl) (Nat.le_of_ble_eq_true rfl)
abbrev rm_X5_x : Room := { frames := 0, cells := 0, slots := 0, locals := 0 }
set_option maxHeartbeats 4000000 in
theorem f5_x {lx : Launch} {g : GP} {h : AH} (htr : lx.stackTraces = false) {a : Nat} {x y : Int32} (ha : h a = some (huE x y)) : KT lx g yX5_x (ws_ yX5_x cX5_x 1 (some .int)) rm_X5_x 0 0 [.ref a] h (isP (.int x) h) (noX) := by
  refine KT.of (by decide +kernel) htr (Nat.le_of_ble_eq_true rfl) (L0 := [some (.ref a)]) rfl ?_
  intro M cx hl9 hq hin hnx
  refine a_aload_n cx dX5_x_0 rfl ?_
  refine a_get cx fl_X5_19.g dX5_x_1 (by assumption) (by exact rfl) ?_
  exact a_iret cx hq dX5_x_4 ⟨rfl, rfl⟩ (Nat.le_of_ble_eq_true rfl) (Nat.le_of_ble_eq_true rfl)
abbrev rm_X5_y : Room := { frames := 0, cells := 0, slots := 0, locals := 0 }
set_option maxHeartbeats 4000000 in
theorem f5_y {lx : Launch} {g : GP} {h : AH} (htr : lx.stackTraces = false) {a : Nat} {x y : Int32} (ha : h a = some (huE x y)) : KT lx g yX5_y (ws_ yX5_y cX5_y 1 (some .int)) rm_X5_y 0 0 [.ref a] h (isP (.int y) h) (noX) := by
  refine KT.of (by decide +kernel) htr (Nat.le_of_ble_eq_true rfl) (L0 := [some (.ref a)]) rfl ?_
  intro M cx hl9 hq hin hnx
  refine a_aload_n cx dX5_y_0 rfl ?_
  refine a_get cx fl_X5_25.g dX5_y_1 (by assumption) (by exact rfl) ?_
  exact a_iret cx hq dX5_y_4 ⟨rfl, rfl⟩ (Nat.le_of_ble_eq_true rfl) (Nat.le_of_ble_eq_true rfl)
abbrev rm_X9_x : Room := { frames := 0, cells := 0, slots := 0, locals := 0 }
set_option maxHeartbeats 4000000 in
theorem f9_x {lx : Launch} {g : GP} {h : AH} (htr : lx.stackTraces = false) {a : Nat} {x y : Int32} (ha : h a = some (plE x y)) : KT lx g yX9_x (ws_ yX9_x cX9_x 1 (some .int)) rm_X9_x 0 0 [.ref a] h (isP (.int x) h) (noX) := by
  refine KT.of (by decide +kernel) htr (Nat.le_of_ble_eq_true rfl) (L0 := [some (.ref a)]) rfl ?_
  intro M cx hl9 hq hin hnx
  refine a_aload_n cx dX9_x_0 rfl ?_
  refine a_get cx fl_X9_1.g dX9_x_1 (by assumption) (by exact rfl) ?_
  exact a_iret cx hq dX9_x_4 ⟨rfl, rfl⟩ (Nat.le_of_ble_eq_true rfl) (Nat.le_of_ble_eq_true rfl)
abbrev rm_X9_y : Room := { frames := 0, cells := 0, slots := 0, locals := 0 }
set_option maxHeartbeats 4000000 in
theorem f9_y {lx : Launch} {g : GP} {h : AH} (htr : lx.stackTraces = false) {a : Nat} {x y : Int32} (ha : h a = some (plE x y)) : KT lx g yX9_y (ws_ yX9_y cX9_y 1 (some .int)) rm_X9_y 0 0 [.ref a] h (isP (.int y) h) (noX) := by
  refine KT.of (by decide +kernel) htr (Nat.le_of_ble_eq_true rfl) (L0 := [some (.ref a)]) rfl ?_
  intro M cx hl9 hq hin hnx
  refine a_aload_n cx dX9_y_0 rfl ?_
  refine a_get cx fl_X9_7.g dX9_y_1 (by assumption) (by exact rfl) ?_
  exact a_iret cx hq dX9_y_4 ⟨rfl, rfl⟩ (Nat.le_of_ble_eq_true rfl) (Nat.le_of_ble_eq_true rfl)
abbrev rm_X4_init : Room := { frames := 1, cells := 0, slots := 0, locals := 20 }
set_option maxHeartbeats 4000000 in
theorem f4_init {lx : Launch} {g : GP} {h : AH} (htr : lx.stackTraces = false) {a : Nat} {x y w : Int32} (ha : h a = some (shE 0 0 0 0)) (hB : gB g ≤ a) : KT lx g yX4_init (ws_ yX4_init cX4_init 4 none) rm_X4_init 0 0 [.ref a, .int x, .int y, .int w] h (fun v h' => v = none ∧ h' = hset h a (shE x y w (-1))) (noX) := by
  refine KT.of (by decide +kernel) htr (Nat.le_of_ble_eq_true rfl) (L0 := [some (.ref a), some (.int x), some (.int y), some (.int w)]) rfl ?_
  intro M cx hl9 hq hin hnx
  refine a_aload_n cx dX4_init_0 rfl ?_
  refine a_objInit cx q466 q124 q125 dX4_init_1 (Nat.le_of_ble_eq_true rfl) (Nat.le_of_ble_eq_true rfl) ?_
  refine a_aload_n cx dX4_init_4 rfl ?_
  refine a_iconst cx (v := -1) dX4_init_5 (by decide) ?_
  refine a_put cx fl_X4_9 dX4_init_6 (by assumption) rfl rfl (by exact (Nat.le_of_ble_eq_true rfl)) ?_
  refine a_aload_n cx dX4_init_9 rfl ?_
  refine a_iload_n cx dX4_init_10 rfl ?_
  refine a_putF cx (hin.trans rfl) fl_X4_15 dX4_init_11 (hset_s _ _ _) (by assumption) rfl rfl (by exact (Nat.le_of_ble_eq_true rfl)) ?_
  refine a_aload_n cx dX4_init_14 rfl ?_
  refine a_iload_n cx dX4_init_15 rfl ?_
  refine a_putF cx (hin.trans rfl) fl_X4_18 dX4_init_16 (hset_s _ _ _) (by assumption) rfl rfl (by exact (Nat.le_of_ble_eq_true rfl)) ?_
  refine a_aload_n cx dX4_init_19 rfl ?_
  refine a_iload_n cx dX4_init_20 rfl ?_
  refine a_put cx fl_X4_21 dX4_init_21 (hset_s _ _ _) rfl rfl (by exact (Nat.le_of_ble_eq_true rfl)) ?_
  exact a_vret cx hq dX4_init_24 ⟨rfl, by rw [hset_hset, hset_hset, hset_hset]; rfl⟩ (Nat.le_of_ble_eq_true rfl) (Nat.le_of_ble_eq_true rfl)
abbrev rm_X4_copy : Room := { frames := 2, cells := 1, slots := 4, locals := 43 }
set_option maxHeartbeats 4000000 in
theorem f4_copy {lx : Launch} {g : GP} {h : AH} (htr : lx.stackTraces = false) {a : Nat} {x y w u : Int32} (ha : h a = some (shE x y w u)) : KT lx g yX4_copy (ws_ yX4_copy cX4_copy 2 (some (.object "FlockHuts$Sheep"))) rm_X4_copy 1 4 [.ref a] h (fun v h' => ∃ q, h q = none ∧ gB g ≤ q ∧ v = some (.ref q) ∧ h' = hset h q (shE x y w u)) (noX) := by
  refine KT.of (by decide +kernel) htr (Nat.le_of_ble_eq_true rfl) (L0 := [some (.ref a), none]) rfl ?_
  intro M cx hl9 hq hin hnx
  refine a_new cx nl_X4_10 dX4_copy_0 (Nat.le_of_ble_eq_true rfl) (Nat.le_of_ble_eq_true rfl) (fun q n0 hB0 => ?_)
  have hne : a ≠ q := fun e => by rw [e, n0] at ha; cases ha
  refine a_dup cx dX4_copy_3 rfl ?_
  refine a_aload_n cx dX4_copy_4 rfl ?_
  refine a_get cx fl_X4_15.g dX4_copy_5 ((hset_n hne).trans ha) (by exact rfl) ?_
  refine a_aload_n cx dX4_copy_8 rfl ?_
  refine a_get cx fl_X4_18.g dX4_copy_9 ((hset_n hne).trans ha) (by exact rfl) ?_
  refine a_aload_n cx dX4_copy_12 rfl ?_
  refine a_get cx fl_X4_21.g dX4_copy_13 ((hset_n hne).trans ha) (by exact rfl) ?_
  refine c_I cx (f4_init cx.htr (hset_s _ _ _) hB0) (lw_meth q465) q95 q463 q464 rfl dn_X4_init (RN.of rfl rfl rfl rfl) rfl rfl (Nat.le_of_ble_eq_true rfl) dX4_copy_16 (Nat.le_of_ble_eq_true rfl) (Nat.le_of_ble_eq_true rfl) (fun v9 h hp9 => ?_) (fun E9 q9 h9 hx9 => hx9.elim)
  obtain ⟨rfl, rfl⟩ := hp9
  refine a_astore_n cx dX4_copy_19 (Nat.le_of_ble_eq_true rfl) rfl ?_
  refine a_aload_n cx dX4_copy_20 rfl ?_
  refine a_aload_n cx dX4_copy_21 rfl ?_
  refine a_get cx fl_X4_9.g dX4_copy_22 ((hset_n hne).trans ((hset_n hne).trans ha)) (by exact rfl) ?_
  refine a_put cx fl_X4_9 dX4_copy_25 (hset_s _ _ _) rfl rfl (by exact (Nat.le_of_ble_eq_true rfl)) ?_
  refine a_aload_n cx dX4_copy_28 rfl ?_
  exact a_aret cx hq dX4_copy_29 (Or.inl ⟨_, rfl⟩) ⟨q, n0, hB0, rfl, by rw [hset_hset, hset_hset]; rfl⟩ (Nat.le_of_ble_eq_true rfl) (Nat.le_of_ble_eq_true rfl)
abbrev rm_X9_init : Room := { frames := 1, cells := 0, slots := 0, locals := 20 }
set_option maxHeartbeats 4000000 in
theorem f9_init {lx : Launch} {g : GP} {h : AH} (htr : lx.stackTraces = false) {a : Nat} {x y : Int32} (ha : h a = some (plE 0 0)) (hB : gB g ≤ a) : KT lx g yX9_init (ws_ yX9_init cX9_init 3 none) rm_X9_init 0 0 [.ref a, .int x, .int y] h (fun v h' => v = none ∧ h' = hset h a (plE x y)) (noX) := by
  refine KT.of (by decide +kernel) htr (Nat.le_of_ble_eq_true rfl) (L0 := [some (.ref a), some (.int x), some (.int y)]) rfl ?_
  intro M cx hl9 hq hin hnx
  refine a_aload_n cx dX9_init_0 rfl ?_
  refine a_iload_n cx dX9_init_1 rfl ?_
  refine a_putF cx (hin.trans rfl) fl_X9_1 dX9_init_2 (by assumption) (by assumption) rfl rfl (by exact (Nat.le_of_ble_eq_true rfl)) ?_
  refine a_aload_n cx dX9_init_5 rfl ?_
  refine a_iload_n cx dX9_init_6 rfl ?_
  refine a_putF cx (hin.trans rfl) fl_X9_7 dX9_init_7 (hset_s _ _ _) (by assumption) rfl rfl (by exact (Nat.le_of_ble_eq_true rfl)) ?_
  refine a_aload_n cx dX9_init_10 rfl ?_
  refine a_objInit cx q719 q124 q125 dX9_init_11 (Nat.le_of_ble_eq_true rfl) (Nat.le_of_ble_eq_true rfl) ?_
  exact a_vret cx hq dX9_init_14 ⟨rfl, by rw [hset_hset]; rfl⟩ (Nat.le_of_ble_eq_true rfl) (Nat.le_of_ble_eq_true rfl)
abbrev rm_X8_at : Room := { frames := 2, cells := 1, slots := 2, locals := 42 }
set_option maxHeartbeats 4000000 in
theorem f8_at {lx : Launch} {g : GP} {h : AH} (htr : lx.stackTraces = false) {x y : Int32} : KT lx g yX8_at (ws_ yX8_at cX8_at 2 (some (.object "FlockHuts$Placed"))) rm_X8_at 1 2 [.int x, .int y] h (fun v h' => ∃ q, h q = none ∧ gB g ≤ q ∧ v = some (.ref q) ∧ h' = hset h q (plE x y)) (noX) := by
  refine KT.of (by decide +kernel) htr (Nat.le_of_ble_eq_true rfl) (L0 := [some (.int x), some (.int y)]) rfl ?_
  intro M cx hl9 hq hin hnx
  refine a_new cx nl_X8_14 dX8_at_0 (Nat.le_of_ble_eq_true rfl) (Nat.le_of_ble_eq_true rfl) (fun q n0 hB0 => ?_)
  refine a_dup cx dX8_at_3 rfl ?_
  refine a_iload_n cx dX8_at_4 rfl ?_
  refine a_iload_n cx dX8_at_5 rfl ?_
  refine c_I cx (f9_init cx.htr (hset_s _ _ _) hB0) (lw_meth q718) q108 q716 q717 rfl dn_X9_init (RN.of rfl rfl rfl rfl) rfl rfl (Nat.le_of_ble_eq_true rfl) dX8_at_6 (Nat.le_of_ble_eq_true rfl) (Nat.le_of_ble_eq_true rfl) (fun v9 h hp9 => ?_) (fun E9 q9 h9 hx9 => hx9.elim)
  obtain ⟨rfl, rfl⟩ := hp9
  exact a_aret cx hq dX8_at_9 (Or.inl ⟨_, rfl⟩) ⟨q, n0, hB0, rfl, by rw [hset_hset]⟩ (Nat.le_of_ble_eq_true rfl) (Nat.le_of_ble_eq_true rfl)
abbrev rm_X5_goh : Room := { frames := 1, cells := 0, slots := 0, locals := 20 }
set_option maxHeartbeats 4000000 in
theorem f5_goh {lx : Launch} {g : GP} {h : AH} (htr : lx.stackTraces = false) {a p : Nat} {x0 y0 x y w u : Int32} (ha : h a = some (huE x0 y0)) (hp : h p = some (huE x y)) (hne : p ≠ a) : KT lx g yX5_go (ws_ yX5_go cX5_go 2 none) rm_X5_goh 0 0 [.ref a, .ref p] h (fun v h' => v = none ∧ h' = hset h a (huE x y)) (noX) := by
  refine KT.of (by decide +kernel) htr (Nat.le_of_ble_eq_true rfl) (L0 := [some (.ref a), some (.ref p)]) rfl ?_
  intro M cx hl9 hq hin hnx
  refine a_aload_n cx dX5_go_0 rfl ?_
  refine a_aload_n cx dX5_go_1 rfl ?_
  refine c_F cx (f5_x cx.htr hp) (lw_F q574 q578 q580 q100 q582) (by decide +kernel) ⟨by decide, by decide, by decide +kernel⟩ (RN.of rfl rfl rfl rfl) rfl (by assumption) rfl rfl rfl (Nat.le_of_ble_eq_true rfl) dX5_go_2 (Nat.le_of_ble_eq_true rfl) (Nat.le_of_ble_eq_true rfl) (fun v9 h hp9 => ?_) (fun E9 q9 h9 hx9 => hx9.elim)
  obtain ⟨rfl, rfl⟩ := hp9
  refine a_put cx fl_X5_19 dX5_go_7 ha rfl rfl (by exact (Nat.le_of_ble_eq_true rfl)) ?_
  have hp2 := (hset_n (e := huE x y0) hne).trans hp
  refine a_aload_n cx dX5_go_10 rfl ?_
  refine a_aload_n cx dX5_go_11 rfl ?_
  refine c_F cx (f5_y cx.htr hp2) (lw_F q596 q599 q601 q100 q603) (by decide +kernel) ⟨by decide, by decide, by decide +kernel⟩ (RN.of rfl rfl rfl rfl) rfl (by assumption) rfl rfl rfl (Nat.le_of_ble_eq_true rfl) dX5_go_12 (Nat.le_of_ble_eq_true rfl) (Nat.le_of_ble_eq_true rfl) (fun v9 h hp9 => ?_) (fun E9 q9 h9 hx9 => hx9.elim)
  obtain ⟨rfl, rfl⟩ := hp9
  refine a_put cx fl_X5_25 dX5_go_17 (hset_s _ _ _) rfl rfl (by exact (Nat.le_of_ble_eq_true rfl)) ?_
  exact a_vret cx hq dX5_go_20 ⟨rfl, by rw [hset_hset]; rfl⟩ (Nat.le_of_ble_eq_true rfl) (Nat.le_of_ble_eq_true rfl)
abbrev rm_X5_inith : Room := { frames := 2, cells := 0, slots := 0, locals := 41 }
set_option maxHeartbeats 4000000 in
theorem f5_inith {lx : Launch} {g : GP} {h : AH} (htr : lx.stackTraces = false) {a p : Nat} {x y w u : Int32} (ha : h a = some (huE 0 0)) (hp : h p = some (huE x y)) (hne : p ≠ a) : KT lx g yX5_init (ws_ yX5_init cX5_init 2 none) rm_X5_inith 0 0 [.ref a, .ref p] h (fun v h' => v = none ∧ h' = hset h a (huE x y)) (noX) := by
  refine KT.of (by decide +kernel) htr (Nat.le_of_ble_eq_true rfl) (L0 := [some (.ref a), some (.ref p)]) rfl ?_
  intro M cx hl9 hq hin hnx
  refine a_aload_n cx dX5_init_0 rfl ?_
  refine a_objInit cx q568 q124 q125 dX5_init_1 (Nat.le_of_ble_eq_true rfl) (Nat.le_of_ble_eq_true rfl) ?_
  refine a_aload_n cx dX5_init_4 rfl ?_
  refine a_aload_n cx dX5_init_5 rfl ?_
  refine c_V cx (f5_goh (w := w) (u := u) cx.htr ha hp hne) (lw_V q569 q570 q571 q100 q572) dn_X5_go (RN.of rfl rfl rfl rfl) rfl (by assumption) rfl rfl rfl (Nat.le_of_ble_eq_true rfl) dX5_init_6 (Nat.le_of_ble_eq_true rfl) (Nat.le_of_ble_eq_true rfl) (fun v9 h hp9 => ?_) (fun E9 q9 h9 hx9 => hx9.elim)
  obtain ⟨rfl, rfl⟩ := hp9
  exact a_vret cx hq dX5_init_9 ⟨rfl, rfl⟩ (Nat.le_of_ble_eq_true rfl) (Nat.le_of_ble_eq_true rfl)
abbrev rm_X5_gos : Room := { frames := 1, cells := 0, slots := 0, locals := 20 }
set_option maxHeartbeats 4000000 in
theorem f5_gos {lx : Launch} {g : GP} {h : AH} (htr : lx.stackTraces = false) {a p : Nat} {x0 y0 x y w u : Int32} (ha : h a = some (huE x0 y0)) (hp : h p = some (shE x y w u)) (hne : p ≠ a) : KT lx g yX5_go (ws_ yX5_go cX5_go 2 none) rm_X5_gos 0 0 [.ref a, .ref p] h (fun v h' => v = none ∧ h' = hset h a (huE x y)) (noX) := by
  refine KT.of (by decide +kernel) htr (Nat.le_of_ble_eq_true rfl) (L0 := [some (.ref a), some (.ref p)]) rfl ?_
  intro M cx hl9 hq hin hnx
  refine a_aload_n cx dX5_go_0 rfl ?_
  refine a_aload_n cx dX5_go_1 rfl ?_
  refine c_F cx (f4_x cx.htr hp) (lw_F q574 q590 q592 q95 q594) (by decide +kernel) ⟨by decide, by decide, by decide +kernel⟩ (RN.of rfl rfl rfl rfl) rfl (by assumption) rfl rfl rfl (Nat.le_of_ble_eq_true rfl) dX5_go_2 (Nat.le_of_ble_eq_true rfl) (Nat.le_of_ble_eq_true rfl) (fun v9 h hp9 => ?_) (fun E9 q9 h9 hx9 => hx9.elim)
  obtain ⟨rfl, rfl⟩ := hp9
  refine a_put cx fl_X5_19 dX5_go_7 ha rfl rfl (by exact (Nat.le_of_ble_eq_true rfl)) ?_
  have hp2 := (hset_n (e := huE x y0) hne).trans hp
  refine a_aload_n cx dX5_go_10 rfl ?_
  refine a_aload_n cx dX5_go_11 rfl ?_
  refine c_F cx (f4_y cx.htr hp2) (lw_F q596 q609 q611 q95 q613) (by decide +kernel) ⟨by decide, by decide, by decide +kernel⟩ (RN.of rfl rfl rfl rfl) rfl (by assumption) rfl rfl rfl (Nat.le_of_ble_eq_true rfl) dX5_go_12 (Nat.le_of_ble_eq_true rfl) (Nat.le_of_ble_eq_true rfl) (fun v9 h hp9 => ?_) (fun E9 q9 h9 hx9 => hx9.elim)
  obtain ⟨rfl, rfl⟩ := hp9
  refine a_put cx fl_X5_25 dX5_go_17 (hset_s _ _ _) rfl rfl (by exact (Nat.le_of_ble_eq_true rfl)) ?_
  exact a_vret cx hq dX5_go_20 ⟨rfl, by rw [hset_hset]; rfl⟩ (Nat.le_of_ble_eq_true rfl) (Nat.le_of_ble_eq_true rfl)
abbrev rm_X5_inits : Room := { frames := 2, cells := 0, slots := 0, locals := 41 }
set_option maxHeartbeats 4000000 in
theorem f5_inits {lx : Launch} {g : GP} {h : AH} (htr : lx.stackTraces = false) {a p : Nat} {x y w u : Int32} (ha : h a = some (huE 0 0)) (hp : h p = some (shE x y w u)) (hne : p ≠ a) : KT lx g yX5_init (ws_ yX5_init cX5_init 2 none) rm_X5_inits 0 0 [.ref a, .ref p] h (fun v h' => v = none ∧ h' = hset h a (huE x y)) (noX) := by
  refine KT.of (by decide +kernel) htr (Nat.le_of_ble_eq_true rfl) (L0 := [some (.ref a), some (.ref p)]) rfl ?_
  intro M cx hl9 hq hin hnx
  refine a_aload_n cx dX5_init_0 rfl ?_
  refine a_objInit cx q568 q124 q125 dX5_init_1 (Nat.le_of_ble_eq_true rfl) (Nat.le_of_ble_eq_true rfl) ?_
  refine a_aload_n cx dX5_init_4 rfl ?_
  refine a_aload_n cx dX5_init_5 rfl ?_
  refine c_V cx (f5_gos (w := w) (u := u) cx.htr ha hp hne) (lw_V q569 q570 q571 q100 q572) dn_X5_go (RN.of rfl rfl rfl rfl) rfl (by assumption) rfl rfl rfl (Nat.le_of_ble_eq_true rfl) dX5_init_6 (Nat.le_of_ble_eq_true rfl) (Nat.le_of_ble_eq_true rfl) (fun v9 h hp9 => ?_) (fun E9 q9 h9 hx9 => hx9.elim)
  obtain ⟨rfl, rfl⟩ := hp9
  exact a_vret cx hq dX5_init_9 ⟨rfl, rfl⟩ (Nat.le_of_ble_eq_true rfl) (Nat.le_of_ble_eq_true rfl)
abbrev rm_X5_gop : Room := { frames := 1, cells := 0, slots := 0, locals := 20 }
set_option maxHeartbeats 4000000 in
theorem f5_gop {lx : Launch} {g : GP} {h : AH} (htr : lx.stackTraces = false) {a p : Nat} {x0 y0 x y w u : Int32} (ha : h a = some (huE x0 y0)) (hp : h p = some (plE x y)) (hne : p ≠ a) : KT lx g yX5_go (ws_ yX5_go cX5_go 2 none) rm_X5_gop 0 0 [.ref a, .ref p] h (fun v h' => v = none ∧ h' = hset h a (huE x y)) (noX) := by
  refine KT.of (by decide +kernel) htr (Nat.le_of_ble_eq_true rfl) (L0 := [some (.ref a), some (.ref p)]) rfl ?_
  intro M cx hl9 hq hin hnx
  refine a_aload_n cx dX5_go_0 rfl ?_
  refine a_aload_n cx dX5_go_1 rfl ?_
  refine c_F cx (f9_x cx.htr hp) (lw_F q574 q584 q586 q108 q588) (by decide +kernel) ⟨by decide, by decide, by decide +kernel⟩ (RN.of rfl rfl rfl rfl) rfl (by assumption) rfl rfl rfl (Nat.le_of_ble_eq_true rfl) dX5_go_2 (Nat.le_of_ble_eq_true rfl) (Nat.le_of_ble_eq_true rfl) (fun v9 h hp9 => ?_) (fun E9 q9 h9 hx9 => hx9.elim)
  obtain ⟨rfl, rfl⟩ := hp9
  refine a_put cx fl_X5_19 dX5_go_7 ha rfl rfl (by exact (Nat.le_of_ble_eq_true rfl)) ?_
  have hp2 := (hset_n (e := huE x y0) hne).trans hp
  refine a_aload_n cx dX5_go_10 rfl ?_
  refine a_aload_n cx dX5_go_11 rfl ?_
  refine c_F cx (f9_y cx.htr hp2) (lw_F q596 q604 q606 q108 q608) (by decide +kernel) ⟨by decide, by decide, by decide +kernel⟩ (RN.of rfl rfl rfl rfl) rfl (by assumption) rfl rfl rfl (Nat.le_of_ble_eq_true rfl) dX5_go_12 (Nat.le_of_ble_eq_true rfl) (Nat.le_of_ble_eq_true rfl) (fun v9 h hp9 => ?_) (fun E9 q9 h9 hx9 => hx9.elim)
  obtain ⟨rfl, rfl⟩ := hp9
  refine a_put cx fl_X5_25 dX5_go_17 (hset_s _ _ _) rfl rfl (by exact (Nat.le_of_ble_eq_true rfl)) ?_
  exact a_vret cx hq dX5_go_20 ⟨rfl, by rw [hset_hset]; rfl⟩ (Nat.le_of_ble_eq_true rfl) (Nat.le_of_ble_eq_true rfl)
abbrev rm_X5_initp : Room := { frames := 2, cells := 0, slots := 0, locals := 41 }
set_option maxHeartbeats 4000000 in
theorem f5_initp {lx : Launch} {g : GP} {h : AH} (htr : lx.stackTraces = false) {a p : Nat} {x y w u : Int32} (ha : h a = some (huE 0 0)) (hp : h p = some (plE x y)) (hne : p ≠ a) : KT lx g yX5_init (ws_ yX5_init cX5_init 2 none) rm_X5_initp 0 0 [.ref a, .ref p] h (fun v h' => v = none ∧ h' = hset h a (huE x y)) (noX) := by
  refine KT.of (by decide +kernel) htr (Nat.le_of_ble_eq_true rfl) (L0 := [some (.ref a), some (.ref p)]) rfl ?_
  intro M cx hl9 hq hin hnx
  refine a_aload_n cx dX5_init_0 rfl ?_
  refine a_objInit cx q568 q124 q125 dX5_init_1 (Nat.le_of_ble_eq_true rfl) (Nat.le_of_ble_eq_true rfl) ?_
  refine a_aload_n cx dX5_init_4 rfl ?_
  refine a_aload_n cx dX5_init_5 rfl ?_
  refine c_V cx (f5_gop (w := w) (u := u) cx.htr ha hp hne) (lw_V q569 q570 q571 q100 q572) dn_X5_go (RN.of rfl rfl rfl rfl) rfl (by assumption) rfl rfl rfl (Nat.le_of_ble_eq_true rfl) dX5_init_6 (Nat.le_of_ble_eq_true rfl) (Nat.le_of_ble_eq_true rfl) (fun v9 h hp9 => ?_) (fun E9 q9 h9 hx9 => hx9.elim)
  obtain ⟨rfl, rfl⟩ := hp9
  exact a_vret cx hq dX5_init_9 ⟨rfl, rfl⟩ (Nat.le_of_ble_eq_true rfl) (Nat.le_of_ble_eq_true rfl)
