/-! ARRAYLISTS, reading -/
set_option maxRecDepth 100000
abbrev rm_J13_checkIndex : Room := { frames := 1, cells := 0, slots := 0, locals := 22 }
set_option maxHeartbeats 4000000 in
theorem j13_checkIndex {lx : Launch} {g : GP} {h : AH} (htr : lx.stackTraces = false) {i n : Nat} (hi : i < n) (hn : n < 2 ^ 31) : KT lx g yJ13_checkIndex (ws_ yJ13_checkIndex cJ13_checkIndex 2 (some .int)) rm_J13_checkIndex 0 0 [.int (nI i), .int (nI n)] h (isP (.int (nI i)) h) (noX) := by
  refine KT.of (by decide +kernel) htr (Nat.le_of_ble_eq_true rfl) (L0 := [some (.int (nI i)), some (.int (nI n))]) rfl ?_
  intro M cx hl9 hq hin hnx
  refine a_iload_n cx dJ13_checkIndex_0 rfl ?_
  refine a_iload_n cx dJ13_checkIndex_1 rfl ?_
  refine a_null cx dJ13_checkIndex_2 ?_
  refine c_Sp cx (j14_checkIndex cx.htr rfl hi hn) (lw_S q432 q433 q94 q434) dn_J14_checkIndex (RN.of rfl rfl rfl rfl) rfl rfl (Nat.le_of_ble_eq_true rfl) dJ13_checkIndex_3 (Nat.le_of_ble_eq_true rfl) (Nat.le_of_ble_eq_true rfl) ?_
  exact a_iret cx hq dJ13_checkIndex_6 ⟨rfl, rfl⟩ (Nat.le_of_ble_eq_true rfl) (Nat.le_of_ble_eq_true rfl)
abbrev rm_J2_size : Room := { frames := 0, cells := 0, slots := 0, locals := 0 }
set_option maxHeartbeats 4000000 in
theorem j2_size {lx : Launch} {g : GP} {h : AH} (htr : lx.stackTraces = false) {a ed n : Nat} {mc : Int32} (ha : h a = some (eO 12 [.int mc, .ref ed, .int (nI n)])) : KT lx g yJ2_size (ws_ yJ2_size cJ2_size 1 (some .int)) rm_J2_size 0 0 [.ref a] h (isP (.int (nI n)) h) (noX) := by
  refine KT.of (by decide +kernel) htr (Nat.le_of_ble_eq_true rfl) (L0 := [some (.ref a)]) rfl ?_
  intro M cx hl9 hq hin hnx
  refine a_aload_n cx dJ2_size_0 rfl ?_
  refine a_get cx fl_J2_48.g dJ2_size_1 (by assumption) (by exact rfl) ?_
  exact a_iret cx hq dJ2_size_4 ⟨rfl, rfl⟩ (Nat.le_of_ble_eq_true rfl) (Nat.le_of_ble_eq_true rfl)
abbrev rm_J2_isEmpty : Room := { frames := 0, cells := 0, slots := 0, locals := 0 }
set_option maxHeartbeats 4000000 in
theorem j2_isEmpty {lx : Launch} {g : GP} {h : AH} (htr : lx.stackTraces = false) {a ed n : Nat} {mc : Int32} (ha : h a = some (eO 12 [.int mc, .ref ed, .int (nI n)])) (hn : n < 2 ^ 31) : KT lx g yJ2_isEmpty (ws_ yJ2_isEmpty cJ2_isEmpty 1 (some .boolean)) rm_J2_isEmpty 0 0 [.ref a] h (isP (.int (bI (n == 0))) h) (noX) := by
  refine KT.of (by decide +kernel) htr (Nat.le_of_ble_eq_true rfl) (L0 := [some (.ref a)]) rfl ?_
  intro M cx hl9 hq hin hnx
  refine a_aload_n cx dJ2_isEmpty_0 rfl ?_
  refine a_get cx fl_J2_48.g dJ2_isEmpty_1 (by assumption) (by exact rfl) ?_
  refine a_if_ne cx (tgt := 11) dJ2_isEmpty_4 (by decide) (fun c4 => ?_) (fun c4 => ?_)
  · have r : bI (n == 0) = 0 := bI_f (by rw [beq_eq_false_iff_ne]; exact fun q => c4 (by rw [q]; rfl))
    refine a_iconst cx (v := 0) dJ2_isEmpty_11 (by decide) ?_
    exact a_zret cx hq dJ2_isEmpty_12 rfl ⟨by rw [r], rfl⟩ (Nat.le_of_ble_eq_true rfl) (Nat.le_of_ble_eq_true rfl)
  · have r : bI (n == 0) = 1 := bI_t (by rw [beq_iff_eq]; exact nI_inj (by omega) (by decide) c4)
    refine a_iconst cx (v := 1) dJ2_isEmpty_7 (by decide) ?_
    refine a_goto cx (tgt := 12) dJ2_isEmpty_8 (by decide) ?_
    exact a_zret cx hq dJ2_isEmpty_12 rfl ⟨by rw [r], rfl⟩ (Nat.le_of_ble_eq_true rfl) (Nat.le_of_ble_eq_true rfl)
abbrev rm_J2_elementData : Room := { frames := 0, cells := 0, slots := 0, locals := 0 }
set_option maxHeartbeats 4000000 in
theorem j2_elementData {lx : Launch} {g : GP} {h : AH} (htr : lx.stackTraces = false) {a ed i cap : Nat} {mc : Int32} {l : List Nat} (hl : AL g h a ed mc cap l) (hi : i < l.length) : KT lx g yJ2_elementData (ws_ yJ2_elementData cJ2_elementData 2 (some (.object "java/lang/Object"))) rm_J2_elementData 0 0 [.ref a, .int (nI i)] h (isP (.ref (l.getD i 0)) h) (noX) := by
  refine KT.of (by decide +kernel) htr (Nat.le_of_ble_eq_true rfl) (L0 := [some (.ref a), some (.int (nI i))]) rfl ?_
  intro M cx hl9 hq hin hnx
  obtain ⟨ha, ⟨f, he, hf⟩, hlc, hc100, hc0⟩ := hl
  refine a_aload_n cx dJ2_elementData_0 rfl ?_
  refine a_get cx fl_J2_9.g dJ2_elementData_1 (by assumption) (by exact rfl) ?_
  refine a_iload_n cx dJ2_elementData_4 rfl ?_
  refine a_aald cx dJ2_elementData_5 he rfl (by omega) (by omega) ?_
  refine AW.top (show va_rf (f i) = .ref (l.getD i 0) by rw [hf i hi]; rfl) ?_
  exact a_aret cx hq dJ2_elementData_6 (Or.inl ⟨_, rfl⟩) ⟨rfl, rfl⟩ (Nat.le_of_ble_eq_true rfl) (Nat.le_of_ble_eq_true rfl)
abbrev rm_J2_get : Room := { frames := 2, cells := 0, slots := 0, locals := 43 }
set_option maxHeartbeats 4000000 in
theorem j2_get {lx : Launch} {g : GP} {h : AH} (htr : lx.stackTraces = false) {a ed i cap : Nat} {mc : Int32} {l : List Nat} (hl : AL g h a ed mc cap l) (hi : i < l.length) : KT lx g yJ2_get (ws_ yJ2_get cJ2_get 2 (some (.object "java/lang/Object"))) rm_J2_get 0 0 [.ref a, .int (nI i)] h (isP (.ref (l.getD i 0)) h) (noX) := by
  refine KT.of (by decide +kernel) htr (Nat.le_of_ble_eq_true rfl) (L0 := [some (.ref a), some (.int (nI i))]) rfl ?_
  intro M cx hl9 hq hin hnx
  obtain ⟨ha, ⟨f, he, hf⟩, hlc, hc100, hc0⟩ := hl
  refine a_iload_n cx dJ2_get_0 rfl ?_
  refine a_aload_n cx dJ2_get_1 rfl ?_
  refine a_get cx fl_J2_48.g dJ2_get_2 (by assumption) (by exact rfl) ?_
  refine c_Sp cx (j13_checkIndex cx.htr hi (by omega)) (lw_S q429 q430 q93 q431) dn_J13_checkIndex (RN.of rfl rfl rfl rfl) rfl rfl (Nat.le_of_ble_eq_true rfl) dJ2_get_5 (Nat.le_of_ble_eq_true rfl) (Nat.le_of_ble_eq_true rfl) ?_
  refine a_pop cx dJ2_get_8 rfl ?_
  refine a_aload_n cx dJ2_get_9 rfl ?_
  refine a_iload_n cx dJ2_get_10 rfl ?_
  refine c_Vp cx (j2_elementData cx.htr ⟨ha, ⟨f, he, hf⟩, hlc, hc100, hc0⟩ hi) (lw_V q435 q436 q437 q81 q438) dn_J2_elementData (RN.of rfl rfl rfl rfl) rfl (by assumption) rfl rfl rfl (Nat.le_of_ble_eq_true rfl) dJ2_get_11 (Nat.le_of_ble_eq_true rfl) (Nat.le_of_ble_eq_true rfl) ?_
  exact a_aret cx hq dJ2_get_14 (Or.inl ⟨_, rfl⟩) ⟨rfl, rfl⟩ (Nat.le_of_ble_eq_true rfl) (Nat.le_of_ble_eq_true rfl)
abbrev rm_J8_checkForComodification : Room := { frames := 0, cells := 0, slots := 0, locals := 0 }
set_option maxHeartbeats 4000000 in
theorem j8_checkForComodification {lx : Launch} {g : GP} {h : AH} (htr : lx.stackTraces = false) {it a ed n : Nat} {c last mc : Int32} (hi : h it = some (itE c last mc a)) (ha : h a = some (eO 12 [.int mc, .ref ed, .int (nI n)])) : KT lx g yJ8_checkForComodification (ws_ yJ8_checkForComodification cJ8_checkForComodification 1 none) rm_J8_checkForComodification 0 0 [.ref it] h (fun v h' => v = none ∧ h' = h) (noX) := by
  refine KT.of (by decide +kernel) htr (Nat.le_of_ble_eq_true rfl) (L0 := [some (.ref it)]) rfl ?_
  intro M cx hl9 hq hin hnx
  refine a_aload_n cx dJ8_checkForComodification_0 rfl ?_
  refine a_get cx fl_J8_1.g dJ8_checkForComodification_1 (by assumption) (by exact rfl) ?_
  refine a_get cx fl_J8_17.g dJ8_checkForComodification_4 (by assumption) (by exact rfl) ?_
  refine a_aload_n cx dJ8_checkForComodification_7 rfl ?_
  refine a_get cx fl_J8_22.g dJ8_checkForComodification_8 (by assumption) (by exact rfl) ?_
  refine a_icmp_eq cx (tgt := 22) dJ8_checkForComodification_11 (by decide) (fun c11 => ?_) (fun c11 => absurd rfl c11)
  exact a_vret cx hq dJ8_checkForComodification_22 ⟨rfl, rfl⟩ (Nat.le_of_ble_eq_true rfl) (Nat.le_of_ble_eq_true rfl)
abbrev rm_J8_hasNext : Room := { frames := 0, cells := 0, slots := 0, locals := 0 }
set_option maxHeartbeats 4000000 in
theorem j8_hasNext {lx : Launch} {g : GP} {h : AH} (htr : lx.stackTraces = false) {it a ed n c : Nat} {last mc mc2 : Int32} (hi : h it = some (itE (nI c) last mc a)) (ha : h a = some (eO 12 [.int mc2, .ref ed, .int (nI n)])) (hn : n < 2 ^ 31) (hc : c < 2 ^ 31) : KT lx g yJ8_hasNext (ws_ yJ8_hasNext cJ8_hasNext 1 (some .boolean)) rm_J8_hasNext 0 0 [.ref it] h (isP (.int (bI (c != n))) h) (noX) := by
  refine KT.of (by decide +kernel) htr (Nat.le_of_ble_eq_true rfl) (L0 := [some (.ref it)]) rfl ?_
  intro M cx hl9 hq hin hnx
  refine a_aload_n cx dJ8_hasNext_0 rfl ?_
  refine a_get cx fl_J8_25.g dJ8_hasNext_1 (by assumption) (by exact rfl) ?_
  refine a_aload_n cx dJ8_hasNext_4 rfl ?_
  refine a_get cx fl_J8_1.g dJ8_hasNext_5 (by assumption) (by exact rfl) ?_
  refine a_get cx fl_J8_28.g dJ8_hasNext_8 (by assumption) (by exact rfl) ?_
  refine a_icmp_eq cx (tgt := 18) dJ8_hasNext_11 (by decide) (fun c11 => ?_) (fun c11 => ?_)
  · have r : bI (c != n) = 0 := bI_f (by rw [bne_eq_false_iff_eq]; exact nI_inj (by omega) (by omega) c11)
    refine a_iconst cx (v := 0) dJ8_hasNext_18 (by decide) ?_
    exact a_zret cx hq dJ8_hasNext_19 rfl ⟨by rw [r], rfl⟩ (Nat.le_of_ble_eq_true rfl) (Nat.le_of_ble_eq_true rfl)
  · have r : bI (c != n) = 1 := bI_t (by rw [bne_iff_ne]; exact fun q => c11 (by rw [q]))
    refine a_iconst cx (v := 1) dJ8_hasNext_14 (by decide) ?_
    refine a_goto cx (tgt := 19) dJ8_hasNext_15 (by decide) ?_
    exact a_zret cx hq dJ8_hasNext_19 rfl ⟨by rw [r], rfl⟩ (Nat.le_of_ble_eq_true rfl) (Nat.le_of_ble_eq_true rfl)
abbrev rm_J8_next : Room := { frames := 1, cells := 0, slots := 0, locals := 20 }
set_option maxHeartbeats 4000000 in
theorem j8_next {lx : Launch} {g : GP} {h : AH} (htr : lx.stackTraces = false) {it a ed c cap : Nat} {last mc : Int32} {l : List Nat} (hi : h it = some (itE (nI c) last mc a)) (hl : AL g h a ed mc cap l) (hcl : c < l.length) : KT lx g yJ8_next (ws_ yJ8_next cJ8_next 3 (some (.object "java/lang/Object"))) rm_J8_next 0 0 [.ref it] h (fun v h' => v = some (.ref (l.getD c 0)) ∧ h' = hset h it (itE (nI (c + 1)) (nI c) mc a)) (noX) := by
  refine KT.of (by decide +kernel) htr (Nat.le_of_ble_eq_true rfl) (L0 := [some (.ref it), none, none]) rfl ?_
  intro M cx hl9 hq hin hnx
  obtain ⟨ha, ⟨f, he, hf⟩, hlc, hc100, hc0⟩ := hl
  have hne : ed ≠ it := fun q => by rw [q, hi] at he; cases he
  refine a_aload_n cx dJ8_next_0 rfl ?_
  refine c_V cx (j8_checkForComodification cx.htr hi ha) (lw_V q450 q451 q452 q88 q453) dn_J8_checkForComodification (RN.of rfl rfl rfl rfl) rfl (by assumption) rfl rfl rfl (Nat.le_of_ble_eq_true rfl) dJ8_next_1 (Nat.le_of_ble_eq_true rfl) (Nat.le_of_ble_eq_true rfl) (fun v9 h hp9 => ?_) (fun E9 q9 h9 hx9 => hx9.elim)
  obtain ⟨rfl, rfl⟩ := hp9
  refine a_aload_n cx dJ8_next_4 rfl ?_
  refine a_get cx fl_J8_25.g dJ8_next_5 (by assumption) (by exact rfl) ?_
  refine a_istore_n cx dJ8_next_8 (Nat.le_of_ble_eq_true rfl) rfl ?_
  refine a_iload_n cx dJ8_next_9 rfl ?_
  refine a_aload_n cx dJ8_next_10 rfl ?_
  refine a_get cx fl_J8_1.g dJ8_next_11 (by assumption) (by exact rfl) ?_
  refine a_get cx fl_J8_28.g dJ8_next_14 (by assumption) (by exact rfl) ?_
  refine a_icmp_lt cx (tgt := 28) dJ8_next_17 (by decide) (fun c17 => ?_) (fun c17 => absurd (nI_lt hcl (by omega)) c17)
  refine a_aload_n cx dJ8_next_28 rfl ?_
  refine a_get cx fl_J8_1.g dJ8_next_29 (by assumption) (by exact rfl) ?_
  refine a_get cx fl_J8_37.g dJ8_next_32 (by assumption) (by exact rfl) ?_
  refine a_astore_n cx dJ8_next_35 (Nat.le_of_ble_eq_true rfl) rfl ?_
  refine a_iload_n cx dJ8_next_36 rfl ?_
  refine a_aload_n cx dJ8_next_37 rfl ?_
  refine a_alen4 cx dJ8_next_38 he ?_
  refine a_icmp_lt cx (tgt := 50) dJ8_next_39 (by decide) (fun c39 => ?_) (fun c39 => absurd (nI_lt (by omega) (by omega)) c39)
  refine a_aload_n cx dJ8_next_50 rfl ?_
  refine a_iload_n cx dJ8_next_51 rfl ?_
  refine a_iconst cx (v := 1) dJ8_next_52 (by decide) ?_
  refine a_iadd cx dJ8_next_53 ?_
  refine AW.topi (nI_1 _) ?_
  refine a_put cx fl_J8_25 dJ8_next_54 (by assumption) rfl rfl (by exact (Nat.le_of_ble_eq_true rfl)) ?_
  refine a_aload_n cx dJ8_next_57 rfl ?_
  refine a_aload_n cx dJ8_next_58 rfl ?_
  refine a_iload_n cx dJ8_next_59 rfl ?_
  refine a_dup_x1 cx dJ8_next_60 rfl rfl ?_
  refine a_put cx fl_J8_13 dJ8_next_61 (hset_s _ _ _) rfl rfl (by exact (Nat.le_of_ble_eq_true rfl)) ?_
  refine a_aald cx dJ8_next_64 ((hset_n hne).trans ((hset_n hne).trans he)) rfl (by omega) (by omega) ?_
  refine AW.top (show va_rf (f c) = .ref (l.getD c 0) by rw [hf c hcl]; rfl) ?_
  exact a_aret cx hq dJ8_next_65 (Or.inl ⟨_, rfl⟩) ⟨rfl, by rw [hset_hset]; rfl⟩ (Nat.le_of_ble_eq_true rfl) (Nat.le_of_ble_eq_true rfl)
abbrev rm_J8_init : Room := { frames := 1, cells := 0, slots := 0, locals := 20 }
set_option maxHeartbeats 4000000 in
theorem j8_init {lx : Launch} {g : GP} {h : AH} (htr : lx.stackTraces = false) {it a ed n : Nat} {mc : Int32} (hi : h it = some (eO 16 [.int 0, .int 0, .int 0, .null])) (hB : gB g ≤ it) (ha : h a = some (eO 12 [.int mc, .ref ed, .int (nI n)])) : KT lx g yJ8_init (ws_ yJ8_init cJ8_init 2 none) rm_J8_init 0 0 [.ref it, .ref a] h (fun v h' => v = none ∧ h' = hset h it (itE 0 (-1) mc a)) (noX) := by
  refine KT.of (by decide +kernel) htr (Nat.le_of_ble_eq_true rfl) (L0 := [some (.ref it), some (.ref a)]) rfl ?_
  intro M cx hl9 hq hin hnx
  have hne : a ≠ it := fun q => by rw [q, hi] at ha; cases ha
  refine a_aload_n cx dJ8_init_0 rfl ?_
  refine a_aload_n cx dJ8_init_1 rfl ?_
  refine a_putF cx (hin.trans rfl) fl_J8_1 dJ8_init_2 (by assumption) (by assumption) rfl rfl (by exact (Nat.le_of_ble_eq_true rfl)) ?_
  refine a_aload_n cx dJ8_init_5 rfl ?_
  refine a_objInit cx q307 q124 q125 dJ8_init_6 (Nat.le_of_ble_eq_true rfl) (Nat.le_of_ble_eq_true rfl) ?_
  refine a_aload_n cx dJ8_init_9 rfl ?_
  refine a_iconst cx (v := -1) dJ8_init_10 (by decide) ?_
  refine a_put cx fl_J8_13 dJ8_init_11 (hset_s _ _ _) rfl rfl (by exact (Nat.le_of_ble_eq_true rfl)) ?_
  refine a_aload_n cx dJ8_init_14 rfl ?_
  refine a_aload_n cx dJ8_init_15 rfl ?_
  refine a_get cx fl_J8_1.g dJ8_init_16 (hset_s _ _ _) (by exact rfl) ?_
  refine a_get cx fl_J8_17.g dJ8_init_19 ((hset_n hne).trans ((hset_n hne).trans ha)) (by exact rfl) ?_
  refine a_put cx fl_J8_22 dJ8_init_22 (hset_s _ _ _) rfl rfl (by exact (Nat.le_of_ble_eq_true rfl)) ?_
  exact a_vret cx hq dJ8_init_25 ⟨rfl, by rw [hset_hset, hset_hset]; rfl⟩ (Nat.le_of_ble_eq_true rfl) (Nat.le_of_ble_eq_true rfl)
abbrev rm_J2_iterator : Room := { frames := 2, cells := 1, slots := 4, locals := 41 }
set_option maxHeartbeats 4000000 in
theorem j2_iterator {lx : Launch} {g : GP} {h : AH} (htr : lx.stackTraces = false) {a ed n : Nat} {mc : Int32} (ha : h a = some (eO 12 [.int mc, .ref ed, .int (nI n)])) : KT lx g yJ2_iterator (ws_ yJ2_iterator cJ2_iterator 1 (some (.object "java/util/Iterator"))) rm_J2_iterator 1 4 [.ref a] h (fun v h' => ∃ it, h it = none ∧ gB g ≤ it ∧ v = some (.ref it) ∧ h' = hset h it (itE 0 (-1) mc a)) (noX) := by
  refine KT.of (by decide +kernel) htr (Nat.le_of_ble_eq_true rfl) (L0 := [some (.ref a)]) rfl ?_
  intro M cx hl9 hq hin hnx
  refine a_new cx nl_J2_267 dJ2_iterator_0 (Nat.le_of_ble_eq_true rfl) (Nat.le_of_ble_eq_true rfl) (fun it n0 hB0 => ?_)
  have hne : a ≠ it := fun q => by rw [q, n0] at ha; cases ha
  refine a_dup cx dJ2_iterator_3 rfl ?_
  refine a_aload_n cx dJ2_iterator_4 rfl ?_
  refine c_I cx (j8_init cx.htr (it := it) (a := a) (hset_s _ _ _) hB0 ((hset_n hne).trans ha)) (lw_meth q306) q88 q304 q305 rfl dn_J8_init (RN.of rfl rfl rfl rfl) rfl rfl (Nat.le_of_ble_eq_true rfl) dJ2_iterator_5 (Nat.le_of_ble_eq_true rfl) (Nat.le_of_ble_eq_true rfl) (fun v9 h hp9 => ?_) (fun E9 q9 h9 hx9 => hx9.elim)
  obtain ⟨rfl, rfl⟩ := hp9
  exact a_aret cx hq dJ2_iterator_8 (Or.inl ⟨_, rfl⟩) ⟨it, n0, hB0, rfl, by rw [hset_hset]⟩ (Nat.le_of_ble_eq_true rfl) (Nat.le_of_ble_eq_true rfl)
