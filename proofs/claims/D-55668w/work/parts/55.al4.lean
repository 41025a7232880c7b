/-! ARRAYLISTS, adding, 3; looking for -/
set_option maxRecDepth 100000
abbrev rm_J2_add : Room := { frames := 6, cells := 1, slots := 100, locals := 150 }
set_option maxHeartbeats 4000000 in
theorem j2_add {lx : Launch} {g : GP} {h : AH} (htr : lx.stackTraces = false) {a ed x cap : Nat} {mc : Int32} {l : List Nat} (hl : AL g h a ed mc cap l) (hl60 : l.length < 60) (hox : isOb h x) (hxa : x ≠ a) (hobs : ∀ y, y ∈ l → isOb h y) (hal : a ∉ l) : KT lx g yJ2_add (ws_ yJ2_add cJ2_add 2 (some .boolean)) rm_J2_add 1 100 [.ref a, .ref x] h (fun v h' => v = some (.int 1) ∧ ADD g h a ed (mc + 1) l x h') (noX) := by
  refine KT.of (by decide +kernel) htr (Nat.le_of_ble_eq_true rfl) (L0 := [some (.ref a), some (.ref x)]) rfl ?_
  intro M cx hl9 hq hin hnx
  have hne := hl.ne
  obtain ⟨ha, ⟨f, he, hf⟩, hlc, hc100, hc0⟩ := hl
  refine a_aload_n cx dJ2_add_0 rfl ?_
  refine a_dup cx dJ2_add_1 rfl ?_
  refine a_get cx fl_J2_63.g dJ2_add_2 (by assumption) (by exact rfl) ?_
  refine a_iconst cx (v := 1) dJ2_add_5 (by decide) ?_
  refine a_iadd cx dJ2_add_6 ?_
  refine a_put cx fl_J2_63 dJ2_add_7 (by assumption) rfl rfl (by exact (Nat.le_of_ble_eq_true rfl)) ?_
  have hl2 : AL g (hset h a (eO 12 [.int (mc + 1), .ref ed, .int (nI l.length)])) a ed (mc + 1) cap l := ⟨hset_s _ _ _, ⟨f, (hset_n hne).trans he, hf⟩, hlc, hc100, hc0⟩
  have ha2 := hl2.1
  refine a_aload_n cx dJ2_add_10 rfl ?_
  refine a_aload_n cx dJ2_add_11 rfl ?_
  refine a_aload_n cx dJ2_add_12 rfl ?_
  refine a_get cx fl_J2_9.g dJ2_add_13 (by assumption) (by exact rfl) ?_
  refine a_aload_n cx dJ2_add_16 rfl ?_
  refine a_get cx fl_J2_48.g dJ2_add_17 (by assumption) (by exact rfl) ?_
  refine c_V cx (j2_add_2 cx.htr hl2 hl60 (hox.set hxa) hxa (fun y hy => (hobs y hy).set (fun q => hal (q ▸ hy)))) (lw_V q496 q498 qs2 q81 q499) dn_J2_add_2 (RN.of rfl rfl rfl rfl) rfl (by assumption) rfl rfl rfl (Nat.le_of_ble_eq_true rfl) dJ2_add_20 (Nat.le_of_ble_eq_true rfl) (Nat.le_of_ble_eq_true rfl) (fun v9 h hp9 => ?_) (fun E9 q9 h9 hx9 => hx9.elim)
  obtain ⟨rfl, hA⟩ := hp9
  refine a_iconst cx (v := 1) dJ2_add_23 (by decide) ?_
  exact a_zret cx hq dJ2_add_24 rfl ⟨rfl, hA.pre⟩ (Nat.le_of_ble_eq_true rfl) (Nat.le_of_ble_eq_true rfl)
abbrev rm_J26_equals : Room := { frames := 0, cells := 0, slots := 0, locals := 0 }
set_option maxHeartbeats 4000000 in
theorem j26_equals {lx : Launch} {g : GP} {h : AH} (htr : lx.stackTraces = false) {x y : Nat} : KT lx g yJ26_equals (ws_ yJ26_equals cJ26_equals 2 (some .boolean)) rm_J26_equals 0 0 [.ref x, .ref y] h (isP (.int (bI (x == y))) h) (noX) := by
  refine KT.ofF (by decide +kernel) htr (Nat.le_of_ble_eq_true rfl) (L0 := [some (.ref x), some (.ref y)]) rfl ?_
  intro M cx hl9 hq hin hnx
  refine a_aload_n cx dJ26_equals_0 rfl ?_
  refine a_aload_n cx dJ26_equals_1 rfl ?_
  refine a_acmp_ne cx (tgt := 9) (rx := some x) (ry := some y) dJ26_equals_2 (by decide) (fun c2 => ?_) (fun c2 => ?_)
  · have r : bI (x == y) = 0 := bI_f (by rw [beq_eq_false_iff_ne]; exact fun q => c2 (by rw [q]))
    refine a_iconst cx (v := 0) dJ26_equals_9 (by decide) ?_
    exact a_zret cx hq dJ26_equals_10 rfl ⟨by rw [r], rfl⟩ (Nat.le_of_ble_eq_true rfl) (Nat.le_of_ble_eq_true rfl)
  · have r : bI (x == y) = 1 := bI_t (by rw [beq_iff_eq]; exact Option.some.inj c2)
    refine a_iconst cx (v := 1) dJ26_equals_5 (by decide) ?_
    refine a_goto cx (tgt := 10) dJ26_equals_6 (by decide) ?_
    exact a_zret cx hq dJ26_equals_10 rfl ⟨by rw [r], rfl⟩ (Nat.le_of_ble_eq_true rfl) (Nat.le_of_ble_eq_true rfl)
