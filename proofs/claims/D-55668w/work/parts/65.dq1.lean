/-! ARRAYDEQUES -/
set_option maxRecDepth 100000
abbrev rm_J3_sub : Room := { frames := 0, cells := 0, slots := 0, locals := 0 }
set_option maxHeartbeats 4000000 in
theorem j3_sub {lx : Launch} {g : GP} {h : AH} (htr : lx.stackTraces = false) {x y : Nat} (hx : x < 17) (hy : y < 17) : KT lx g yJ3_sub (ws_ yJ3_sub cJ3_sub 3 (some .int)) rm_J3_sub 0 0 [.int (nI x), .int (nI y), .int (nI 17)] h (isP (.int (nI (if y ≤ x then x - y else x + 17 - y))) h) (noX) := by
  refine KT.of (by decide +kernel) htr (Nat.le_of_ble_eq_true rfl) (L0 := [some (.int (nI x)), some (.int (nI y)), some (.int (nI 17))]) rfl ?_
  intro M cx hl9 hq hin hnx
  obtain ⟨q1, q2, q3⟩ := dq_sub x hx y hy
  refine a_iload_n cx dJ3_sub_0 rfl ?_
  refine a_iload_n cx dJ3_sub_1 rfl ?_
  refine a_isub cx dJ3_sub_2 ?_
  refine a_dup cx dJ3_sub_3 rfl ?_
  refine a_istore_n cx dJ3_sub_4 (Nat.le_of_ble_eq_true rfl) rfl ?_
  refine a_if_ge cx (tgt := 12) dJ3_sub_5 (by decide) (fun c5 => ?_) (fun c5 => ?_)
  · have d5 := q1.mp c5
    have r : nI x - nI y = nI (if y ≤ x then x - y else x + 17 - y) := by rw [if_pos d5]; exact q2 d5
    refine a_iload_n cx dJ3_sub_12 rfl ?_
    exact a_iret cx hq dJ3_sub_13 ⟨by rw [← r], rfl⟩ (Nat.le_of_ble_eq_true rfl) (Nat.le_of_ble_eq_true rfl)
  · have d5 : ¬ y ≤ x := fun q => c5 (q1.mpr q)
    have r : nI x - nI y + nI 17 = nI (if y ≤ x then x - y else x + 17 - y) := by rw [if_neg d5]; exact q3 (by omega)
    refine a_iload_n cx dJ3_sub_8 rfl ?_
    refine a_iload_n cx dJ3_sub_9 rfl ?_
    refine a_iadd cx dJ3_sub_10 ?_
    refine a_istore_n cx dJ3_sub_11 (Nat.le_of_ble_eq_true rfl) rfl ?_
    refine a_iload_n cx dJ3_sub_12 rfl ?_
    exact a_iret cx hq dJ3_sub_13 ⟨by rw [← r], rfl⟩ (Nat.le_of_ble_eq_true rfl) (Nat.le_of_ble_eq_true rfl)
abbrev rm_J3_inc : Room := { frames := 0, cells := 0, slots := 0, locals := 0 }
set_option maxHeartbeats 4000000 in
theorem j3_inc {lx : Launch} {g : GP} {h : AH} (htr : lx.stackTraces = false) {x : Nat} (hx : x < 17) : KT lx g yJ3_inc (ws_ yJ3_inc cJ3_inc 2 (some .int)) rm_J3_inc 0 0 [.int (nI x), .int (nI 17)] h (isP (.int (nI (if x + 1 < 17 then x + 1 else 0))) h) (noX) := by
  refine KT.of (by decide +kernel) htr (Nat.le_of_ble_eq_true rfl) (L0 := [some (.int (nI x)), some (.int (nI 17))]) rfl ?_
  intro M cx hl9 hq hin hnx
  refine a_iincN cx dJ3_inc_0 rfl (Nat.le_of_ble_eq_true rfl) rfl ?_
  refine a_iload_n cx dJ3_inc_3 rfl ?_
  refine a_iload_n cx dJ3_inc_4 rfl ?_
  refine a_icmp_lt cx (tgt := 10) dJ3_inc_5 (by decide) (fun c5 => ?_) (fun c5 => ?_)
  · have d5 := lt_nI c5 (by omega) (by omega)
    have r : nI (if x + 1 < 17 then x + 1 else 0) = nI (x + 1) := by rw [if_pos d5]
    refine a_iload_n cx dJ3_inc_10 rfl ?_
    exact a_iret cx hq dJ3_inc_11 ⟨by rw [r], rfl⟩ (Nat.le_of_ble_eq_true rfl) (Nat.le_of_ble_eq_true rfl)
  · have d5 := nlt_nI c5 (by omega) (by omega)
    have r : nI (if x + 1 < 17 then x + 1 else 0) = 0 := by rw [if_neg (by omega)]; rfl
    refine a_iconst cx (v := 0) dJ3_inc_8 (by decide) ?_
    refine a_istore_n cx dJ3_inc_9 (Nat.le_of_ble_eq_true rfl) rfl ?_
    refine a_iload_n cx dJ3_inc_10 rfl ?_
    exact a_iret cx hq dJ3_inc_11 ⟨by rw [r], rfl⟩ (Nat.le_of_ble_eq_true rfl) (Nat.le_of_ble_eq_true rfl)
abbrev rm_J3_dec : Room := { frames := 0, cells := 0, slots := 0, locals := 0 }
set_option maxHeartbeats 4000000 in
theorem j3_dec {lx : Launch} {g : GP} {h : AH} (htr : lx.stackTraces = false) {x : Nat} (hx : x < 17) : KT lx g yJ3_dec (ws_ yJ3_dec cJ3_dec 2 (some .int)) rm_J3_dec 0 0 [.int (nI x), .int (nI 17)] h (isP (.int (nI (if 0 < x then x - 1 else 16))) h) (noX) := by
  refine KT.of (by decide +kernel) htr (Nat.le_of_ble_eq_true rfl) (L0 := [some (.int (nI x)), some (.int (nI 17))]) rfl ?_
  intro M cx hl9 hq hin hnx
  obtain ⟨q1, q2⟩ := dq_dec x hx
  refine a_iinc cx dJ3_dec_0 rfl rfl (Nat.le_of_ble_eq_true rfl) rfl ?_
  refine a_iload_n cx dJ3_dec_3 rfl ?_
  refine a_if_ge cx (tgt := 11) dJ3_dec_4 (by decide) (fun c4 => ?_) (fun c4 => ?_)
  · have d4 := q1.mp c4
    have r : nI (if 0 < x then x - 1 else 16) = nI x + Int32.ofInt (-1) := by rw [if_pos d4, q2 d4]
    refine a_iload_n cx dJ3_dec_11 rfl ?_
    exact a_iret cx hq dJ3_dec_12 ⟨by rw [r], rfl⟩ (Nat.le_of_ble_eq_true rfl) (Nat.le_of_ble_eq_true rfl)
  · have d4 : ¬ 0 < x := fun q => c4 (q1.mpr q)
    have r : nI (if 0 < x then x - 1 else 16) = nI 17 - 1 := by rw [if_neg d4]; rfl
    refine a_iload_n cx dJ3_dec_7 rfl ?_
    refine a_iconst cx (v := 1) dJ3_dec_8 (by decide) ?_
    refine a_isub cx dJ3_dec_9 ?_
    refine a_istore_n cx dJ3_dec_10 (Nat.le_of_ble_eq_true rfl) rfl ?_
    refine a_iload_n cx dJ3_dec_11 rfl ?_
    exact a_iret cx hq dJ3_dec_12 ⟨by rw [r], rfl⟩ (Nat.le_of_ble_eq_true rfl) (Nat.le_of_ble_eq_true rfl)
abbrev rm_J3_size : Room := { frames := 1, cells := 0, slots := 0, locals := 22 }
set_option maxHeartbeats 4000000 in
theorem j3_size {lx : Launch} {g : GP} {h : AH} (htr : lx.stackTraces = false) {a el hd : Nat} {l : List Nat} (hD : DQ g h a el hd l) : KT lx g yJ3_size (ws_ yJ3_size cJ3_size 1 (some .int)) rm_J3_size 0 0 [.ref a] h (isP (.int (nI l.length)) h) (noX) := by
  refine KT.of (by decide +kernel) htr (Nat.le_of_ble_eq_true rfl) (L0 := [some (.ref a)]) rfl ?_
  intro M cx hl9 hq hin hnx
  obtain ⟨ha, ⟨f, he, hf⟩, hhd, hl9⟩ := hD
  have hdl := dp_lt' (hd := hd) hhd (show l.length < 17 by omega)
  refine a_aload_n cx dJ3_size_0 rfl ?_
  refine a_get cx fl_J3_20.g dJ3_size_1 (by assumption) (by exact rfl) ?_
  refine a_aload_n cx dJ3_size_4 rfl ?_
  refine a_get cx fl_J3_24.g dJ3_size_5 (by assumption) (by exact rfl) ?_
  refine a_aload_n cx dJ3_size_8 rfl ?_
  refine a_get cx fl_J3_3.g dJ3_size_9 (by assumption) (by exact rfl) ?_
  refine a_alen4 cx dJ3_size_12 he ?_
  refine c_Sp cx (j3_sub cx.htr hdl hhd) (lw_S q1355 q1356 q82 q1357) dn_J3_sub (RN.of rfl rfl rfl rfl) rfl rfl (Nat.le_of_ble_eq_true rfl) dJ3_size_13 (Nat.le_of_ble_eq_true rfl) (Nat.le_of_ble_eq_true rfl) ?_
  refine AW.topi (congrArg nI (dp_size hhd hl9)) ?_
  exact a_iret cx hq dJ3_size_16 ⟨rfl, rfl⟩ (Nat.le_of_ble_eq_true rfl) (Nat.le_of_ble_eq_true rfl)
abbrev rm_J3_isEmpty : Room := { frames := 0, cells := 0, slots := 0, locals := 0 }
set_option maxHeartbeats 4000000 in
theorem j3_isEmpty {lx : Launch} {g : GP} {h : AH} (htr : lx.stackTraces = false) {a el hd : Nat} {l : List Nat} (hD : DQ g h a el hd l) : KT lx g yJ3_isEmpty (ws_ yJ3_isEmpty cJ3_isEmpty 1 (some .boolean)) rm_J3_isEmpty 0 0 [.ref a] h (isP (.int (bI (l.length == 0))) h) (noX) := by
  refine KT.of (by decide +kernel) htr (Nat.le_of_ble_eq_true rfl) (L0 := [some (.ref a)]) rfl ?_
  intro M cx hl9 hq hin hnx
  obtain ⟨ha, ⟨f, he, hf⟩, hhd, hl9⟩ := hD
  have hdl := dp_lt' (hd := hd) hhd (show l.length < 17 by omega)
  refine a_aload_n cx dJ3_isEmpty_0 rfl ?_
  refine a_get cx fl_J3_24.g dJ3_isEmpty_1 (by assumption) (by exact rfl) ?_
  refine a_aload_n cx dJ3_isEmpty_4 rfl ?_
  refine a_get cx fl_J3_20.g dJ3_isEmpty_5 (by assumption) (by exact rfl) ?_
  refine a_icmp_ne cx (tgt := 15) dJ3_isEmpty_8 (by decide) (fun c8 => ?_) (fun c8 => ?_)
  · have r : bI (l.length == 0) = 0 := bI_f (by rw [beq_eq_false_iff_ne]; exact fun q => c8 (by rw [q]; congr 1; unfold dp; rw [if_pos (by omega)]; omega))
    refine a_iconst cx (v := 0) dJ3_isEmpty_15 (by decide) ?_
    exact a_zret cx hq dJ3_isEmpty_16 rfl ⟨by rw [r], rfl⟩ (Nat.le_of_ble_eq_true rfl) (Nat.le_of_ble_eq_true rfl)
  · have d8 := nI_inj (by omega) (by omega) c8
    have r : bI (l.length == 0) = 1 := bI_t (by rw [beq_iff_eq]; unfold dp at d8; split at d8 <;> omega)
    refine a_iconst cx (v := 1) dJ3_isEmpty_11 (by decide) ?_
    refine a_goto cx (tgt := 16) dJ3_isEmpty_12 (by decide) ?_
    exact a_zret cx hq dJ3_isEmpty_16 rfl ⟨by rw [r], rfl⟩ (Nat.le_of_ble_eq_true rfl) (Nat.le_of_ble_eq_true rfl)
abbrev rm_J3_elementAt : Room := { frames := 0, cells := 0, slots := 0, locals := 0 }
set_option maxHeartbeats 4000000 in
theorem j3_elementAt {lx : Launch} {g : GP} {h : AH} (htr : lx.stackTraces = false) {b i x : Nat} {f : Nat → Option Nat} (hb : h b = some (eQ (g.2.1 4) 17 f)) (hi : i < 17) (hx : f i = some x) : KT lx g yJ3_elementAt (ws_ yJ3_elementAt cJ3_elementAt 2 (some (.object "java/lang/Object"))) rm_J3_elementAt 0 0 [.ref b, .int (nI i)] h (isP (.ref x) h) (noX) := by
  refine KT.of (by decide +kernel) htr (Nat.le_of_ble_eq_true rfl) (L0 := [some (.ref b), some (.int (nI i))]) rfl ?_
  intro M cx hl9 hq hin hnx
  refine a_aload_n cx dJ3_elementAt_0 rfl ?_
  refine a_iload_n cx dJ3_elementAt_1 rfl ?_
  refine a_aald cx dJ3_elementAt_2 hb rfl (by omega) (by omega) ?_
  refine AW.top (show va_rf (f i) = .ref x by rw [hx]; rfl) ?_
  exact a_aret cx hq dJ3_elementAt_3 (Or.inl ⟨_, rfl⟩) ⟨rfl, rfl⟩ (Nat.le_of_ble_eq_true rfl) (Nat.le_of_ble_eq_true rfl)
abbrev rm_J3_init : Room := { frames := 2, cells := 1, slots := 17, locals := 40 }
set_option maxHeartbeats 4000000 in
theorem j3_init {lx : Launch} {g : GP} {h : AH} (htr : lx.stackTraces = false) {a : Nat} (ha : h a = some (eO 13 [.null, .int 0, .int 0])) : KT lx g yJ3_init (ws_ yJ3_init cJ3_init 1 none) rm_J3_init 1 17 [.ref a] h (fun v h' => v = none ∧ ∃ el, h el = none ∧ gB g ≤ el ∧ DQ g h' a el 0 [] ∧ ∀ q, q ≠ a → q ≠ el → h' q = h q) (noX) := by
  refine KT.of (by decide +kernel) htr (Nat.le_of_ble_eq_true rfl) (L0 := [some (.ref a)]) rfl ?_
  intro M cx hl9 hq hin hnx
  refine a_aload_n cx dJ3_init_0 rfl ?_
  refine c_I cx (j0_init cx.htr) (lw_meth q142) q79 q198 q141 rfl dn_J0_init (RN.of rfl rfl rfl rfl) rfl rfl (Nat.le_of_ble_eq_true rfl) dJ3_init_1 (Nat.le_of_ble_eq_true rfl) (Nat.le_of_ble_eq_true rfl) (fun v9 h hp9 => ?_) (fun E9 q9 h9 hx9 => hx9.elim)
  obtain ⟨rfl, rfl⟩ := hp9
  refine a_aload_n cx dJ3_init_4 rfl ?_
  refine a_bipush cx (v := 17) dJ3_init_5 (by decide) ?_
  refine a_newaQ cx dJ3_init_7 q199 (show (17 : Int32) = nI 17 from rfl) (by decide) (Nat.le_of_ble_eq_true rfl) (Nat.le_of_ble_eq_true rfl) (fun el n7 hB7 => ?_)
  have hne : a ≠ el := fun q => by rw [q, n7] at ha; cases ha
  refine a_put cx fl_J3_3 dJ3_init_10 ((hset_n hne).trans ha) rfl rfl (by exact (Nat.le_of_ble_eq_true rfl)) ?_
  exact a_vret cx hq dJ3_init_13 ⟨rfl, el, n7, hB7, ⟨hset_s _ _ _, ⟨_, (hset_n (Ne.symm hne)).trans (hset_s _ _ _), fun i hi => absurd hi (Nat.not_lt_zero _)⟩, by decide, by decide⟩, fun q h1 h2 => (hset_n h1).trans (hset_n h2)⟩ (Nat.le_of_ble_eq_true rfl) (Nat.le_of_ble_eq_true rfl)
