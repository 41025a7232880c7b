/-! ARRAYDEQUES, 2 -/
set_option maxRecDepth 100000
abbrev rm_J3_addLast : Room := { frames := 1, cells := 0, slots := 0, locals := 21 }
set_option maxHeartbeats 4000000 in
theorem j3_addLast {lx : Launch} {g : GP} {h : AH} (htr : lx.stackTraces = false) {a el hd x : Nat} {l : List Nat} (hD : DQ g h a el hd l) (hl8 : l.length ≤ 8) (hox : isOb h x) : KT lx g yJ3_addLast (ws_ yJ3_addLast cJ3_addLast 3 none) rm_J3_addLast 0 0 [.ref a, .ref x] h (fun v h' => v = none ∧ DQ g h' a el hd (l ++ [x]) ∧ ∀ q, q ≠ a → q ≠ el → h' q = h q) (noX) := by
  refine KT.of (by decide +kernel) htr (Nat.le_of_ble_eq_true rfl) (L0 := [some (.ref a), some (.ref x), none]) rfl ?_
  intro M cx hl9 hq hin hnx
  have hne := hD.ne
  refine AW.hk fun hk9 => ?_
  have hBe := hD.hB cx.hG.K hk9
  obtain ⟨ha, ⟨f, he, hf⟩, hhd, hl9⟩ := hD
  have hdl := dp_lt' (hd := hd) hhd (show l.length < 17 by omega)
  obtain ⟨ci, fs, r, o1, o2, o3⟩ := hox
  refine a_aload_n cx dJ3_addLast_0 rfl ?_
  refine a_ifnonnull cx (tgt := 12) dJ3_addLast_1 (by decide) ?_
  refine a_aload_n cx dJ3_addLast_12 rfl ?_
  refine a_get cx fl_J3_3.g dJ3_addLast_13 (by assumption) (by exact rfl) ?_
  refine a_astore_n cx dJ3_addLast_16 (Nat.le_of_ble_eq_true rfl) rfl ?_
  refine a_aload_n cx dJ3_addLast_17 rfl ?_
  refine a_aload_n cx dJ3_addLast_18 rfl ?_
  refine a_get cx fl_J3_20.g dJ3_addLast_19 (by assumption) (by exact rfl) ?_
  refine a_aload_n cx dJ3_addLast_22 rfl ?_
  refine a_aast cx dJ3_addLast_23 he hBe o1 o2 o3 rfl hdl (by omega) ?_
  refine a_aload_n cx dJ3_addLast_24 rfl ?_
  refine a_get cx fl_J3_24.g dJ3_addLast_25 ((hset_n (Ne.symm hne)).trans ha) (by exact rfl) ?_
  refine a_aload_n cx dJ3_addLast_28 rfl ?_
  refine a_aload_n cx dJ3_addLast_29 rfl ?_
  refine a_get cx fl_J3_20.g dJ3_addLast_30 ((hset_n (Ne.symm hne)).trans ha) (by exact rfl) ?_
  refine a_aload_n cx dJ3_addLast_33 rfl ?_
  refine a_alen4 cx dJ3_addLast_34 (hset_s _ _ _) ?_
  refine c_Sp cx (j3_inc cx.htr hdl) (lw_S q1369 q1370 q82 q1371) dn_J3_inc (RN.of rfl rfl rfl rfl) rfl rfl (Nat.le_of_ble_eq_true rfl) dJ3_addLast_35 (Nat.le_of_ble_eq_true rfl) (Nat.le_of_ble_eq_true rfl) ?_
  refine AW.topi (congrArg nI (dp_s hhd hl9)) ?_
  refine a_dup_x1 cx dJ3_addLast_38 rfl rfl ?_
  refine a_put cx fl_J3_20 dJ3_addLast_39 ((hset_n (Ne.symm hne)).trans ha) rfl rfl (by exact (Nat.le_of_ble_eq_true rfl)) ?_
  refine a_icmp_ne cx (tgt := 50) dJ3_addLast_42 (by decide) (fun c42 => ?_) (fun c42 => absurd (nI_inj (by omega) (by have := dp_lt' (hd := hd) hhd (show l.length + 1 < 17 by omega); omega) c42) (by unfold dp; split <;> omega))
  exact a_vret cx hq dJ3_addLast_50 ⟨rfl, ⟨by rw [hset_s, List.length_append]; rfl, ⟨_, (hset_n hne).trans (hset_s _ _ _), fun i hi => by
  rw [List.length_append, List.length_singleton] at hi
  rw [getD_app2]
  by_cases h1 : i < l.length
  · rw [if_pos h1, ← hf i h1]; simp [va_up, dp_ne hhd hl9 h1]
  · rw [if_neg h1, if_pos (by omega), show i = l.length by omega]; simp [va_up]⟩, hhd, by rw [List.length_append, List.length_singleton]; omega⟩, fun q h1 h2 => (hset_n h1).trans (hset_n h2)⟩ (Nat.le_of_ble_eq_true rfl) (Nat.le_of_ble_eq_true rfl)
abbrev rm_J3_pollFirst : Room := { frames := 1, cells := 0, slots := 0, locals := 21 }
set_option maxHeartbeats 4000000 in
theorem j3_pollFirst {lx : Launch} {g : GP} {h : AH} (htr : lx.stackTraces = false) {a el hd x : Nat} {l : List Nat} (hD : DQ g h a el hd (x :: l)) : KT lx g yJ3_pollFirst (ws_ yJ3_pollFirst cJ3_pollFirst 4 (some (.object "java/lang/Object"))) rm_J3_pollFirst 0 0 [.ref a] h (fun v h' => v = some (.ref x) ∧ DQ g h' a el (dp hd 1) l ∧ ∀ q, q ≠ a → q ≠ el → h' q = h q) (noX) := by
  refine KT.of (by decide +kernel) htr (Nat.le_of_ble_eq_true rfl) (L0 := [some (.ref a), none, none, none]) rfl ?_
  intro M cx hl9 hq hin hnx
  have hne := hD.ne
  refine AW.hk fun hk9 => ?_
  have hBe := hD.hB cx.hG.K hk9
  obtain ⟨ha, ⟨f, he, hf⟩, hhd, hl9⟩ := hD
  have hdl := dp_lt' (hd := hd) hhd (show (x :: l).length < 17 by omega)
  refine a_aload_n cx dJ3_pollFirst_0 rfl ?_
  refine a_get cx fl_J3_3.g dJ3_pollFirst_1 (by assumption) (by exact rfl) ?_
  refine a_dup cx dJ3_pollFirst_4 rfl ?_
  refine a_astore_n cx dJ3_pollFirst_5 (Nat.le_of_ble_eq_true rfl) rfl ?_
  refine a_aload_n cx dJ3_pollFirst_6 rfl ?_
  refine a_get cx fl_J3_24.g dJ3_pollFirst_7 (by assumption) (by exact rfl) ?_
  refine a_dup cx dJ3_pollFirst_10 rfl ?_
  refine a_istore_n cx dJ3_pollFirst_11 (Nat.le_of_ble_eq_true rfl) rfl ?_
  refine c_Sp cx (j3_elementAt (x := x) cx.htr he hhd (by have := hf 0 (by simp); rw [dp_0 hhd] at this; exact this)) (lw_S q1366 q1367 q82 q1368) dn_J3_elementAt (RN.of rfl rfl rfl rfl) rfl rfl (Nat.le_of_ble_eq_true rfl) dJ3_pollFirst_12 (Nat.le_of_ble_eq_true rfl) (Nat.le_of_ble_eq_true rfl) ?_
  refine a_astore_n cx dJ3_pollFirst_15 (Nat.le_of_ble_eq_true rfl) rfl ?_
  refine a_aload_n cx dJ3_pollFirst_16 rfl ?_
  refine a_ifnull cx dJ3_pollFirst_17 ?_
  refine a_aload_n cx dJ3_pollFirst_20 rfl ?_
  refine a_iload_n cx dJ3_pollFirst_21 rfl ?_
  refine a_null cx dJ3_pollFirst_22 ?_
  refine a_aastN cx dJ3_pollFirst_23 he hBe rfl hhd (by omega) ?_
  refine a_aload_n cx dJ3_pollFirst_24 rfl ?_
  refine a_iload_n cx dJ3_pollFirst_25 rfl ?_
  refine a_aload_n cx dJ3_pollFirst_26 rfl ?_
  refine a_alen4 cx dJ3_pollFirst_27 (hset_s _ _ _) ?_
  refine c_Sp cx (j3_inc cx.htr hhd) (lw_S q1369 q1370 q82 q1371) dn_J3_inc (RN.of rfl rfl rfl rfl) rfl rfl (Nat.le_of_ble_eq_true rfl) dJ3_pollFirst_28 (Nat.le_of_ble_eq_true rfl) (Nat.le_of_ble_eq_true rfl) ?_
  refine AW.topi (congrArg nI (dp_1 hhd)) ?_
  refine a_put cx fl_J3_24 dJ3_pollFirst_31 ((hset_n (Ne.symm hne)).trans ha) rfl rfl (by exact (Nat.le_of_ble_eq_true rfl)) ?_
  refine a_aload_n cx dJ3_pollFirst_34 rfl ?_
  exact a_aret cx hq dJ3_pollFirst_35 (Or.inl ⟨_, rfl⟩) ⟨rfl, ⟨by rw [hset_s, dp_sh hhd (by simp at hl9; omega)]; rfl, ⟨_, (hset_n hne).trans (hset_s _ _ _), fun i hi => by
  have q := hf (i + 1) (by simp; omega)
  rw [dp_sh hhd (by simp at hl9; omega)]
  have n9 : dp hd (i + 1) ≠ hd := by simp at hl9; unfold dp; split <;> omega
  simp only [va_up, n9, if_false]
  exact q⟩, dp_lt' hhd (by decide), by simp at hl9; omega⟩, fun q h1 h2 => (hset_n h1).trans (hset_n h2)⟩ (Nat.le_of_ble_eq_true rfl) (Nat.le_of_ble_eq_true rfl)
abbrev rm_J3_removeFirst : Room := { frames := 2, cells := 0, slots := 0, locals := 44 }
set_option maxHeartbeats 4000000 in
theorem j3_removeFirst {lx : Launch} {g : GP} {h : AH} (htr : lx.stackTraces = false) {a el hd x : Nat} {l : List Nat} (hD : DQ g h a el hd (x :: l)) : KT lx g yJ3_removeFirst (ws_ yJ3_removeFirst cJ3_removeFirst 2 (some (.object "java/lang/Object"))) rm_J3_removeFirst 0 0 [.ref a] h (fun v h' => v = some (.ref x) ∧ DQ g h' a el (dp hd 1) l ∧ ∀ q, q ≠ a → q ≠ el → h' q = h q) (noX) := by
  refine KT.of (by decide +kernel) htr (Nat.le_of_ble_eq_true rfl) (L0 := [some (.ref a), none]) rfl ?_
  intro M cx hl9 hq hin hnx
  refine a_aload_n cx dJ3_removeFirst_0 rfl ?_
  refine c_V cx (j3_pollFirst cx.htr hD) (lw_V q1362 q1363 q1364 q82 q1365) dn_J3_pollFirst (RN.of rfl rfl rfl rfl) rfl hD.1 rfl rfl rfl (Nat.le_of_ble_eq_true rfl) dJ3_removeFirst_1 (Nat.le_of_ble_eq_true rfl) (Nat.le_of_ble_eq_true rfl) (fun v9 h hp9 => ?_) (fun E9 q9 h9 hx9 => hx9.elim)
  obtain ⟨rfl, hD2, hq2⟩ := hp9
  refine a_astore_n cx dJ3_removeFirst_4 (Nat.le_of_ble_eq_true rfl) rfl ?_
  refine a_aload_n cx dJ3_removeFirst_5 rfl ?_
  refine a_ifnonnull cx (tgt := 17) dJ3_removeFirst_6 (by decide) ?_
  refine a_aload_n cx dJ3_removeFirst_17 rfl ?_
  exact a_aret cx hq dJ3_removeFirst_18 (Or.inl ⟨_, rfl⟩) ⟨rfl, hD2, hq2⟩ (Nat.le_of_ble_eq_true rfl) (Nat.le_of_ble_eq_true rfl)
abbrev rm_J3_pollLast : Room := { frames := 1, cells := 0, slots := 0, locals := 21 }
set_option maxHeartbeats 4000000 in
theorem j3_pollLast {lx : Launch} {g : GP} {h : AH} (htr : lx.stackTraces = false) {a el hd x : Nat} {l : List Nat} (hD : DQ g h a el hd (l ++ [x])) : KT lx g yJ3_pollLast (ws_ yJ3_pollLast cJ3_pollLast 4 (some (.object "java/lang/Object"))) rm_J3_pollLast 0 0 [.ref a] h (fun v h' => v = some (.ref x) ∧ DQ g h' a el hd l ∧ ∀ q, q ≠ a → q ≠ el → h' q = h q) (noX) := by
  refine KT.of (by decide +kernel) htr (Nat.le_of_ble_eq_true rfl) (L0 := [some (.ref a), none, none, none]) rfl ?_
  intro M cx hl9 hq hin hnx
  have hne := hD.ne
  refine AW.hk fun hk9 => ?_
  have hBe := hD.hB cx.hG.K hk9
  obtain ⟨ha, ⟨f, he, hf⟩, hhd, hl9⟩ := hD
  have hdl := dp_lt' (hd := hd) hhd (show (l ++ [x]).length < 17 by omega)
  have hll : (l ++ [x]).length = l.length + 1 := by rw [List.length_append]; rfl
  rw [hll] at ha hl9 hdl
  have hdl2 := dp_lt' (hd := hd) hhd (show l.length < 17 by omega)
  refine a_aload_n cx dJ3_pollLast_0 rfl ?_
  refine a_get cx fl_J3_3.g dJ3_pollLast_1 (by assumption) (by exact rfl) ?_
  refine a_dup cx dJ3_pollLast_4 rfl ?_
  refine a_astore_n cx dJ3_pollLast_5 (Nat.le_of_ble_eq_true rfl) rfl ?_
  refine a_aload_n cx dJ3_pollLast_6 rfl ?_
  refine a_get cx fl_J3_20.g dJ3_pollLast_7 (by assumption) (by exact rfl) ?_
  refine a_aload_n cx dJ3_pollLast_10 rfl ?_
  refine a_alen4 cx dJ3_pollLast_11 he ?_
  refine c_Sp cx (j3_dec cx.htr hdl) (lw_S q1945 q1946 q82 q1947) dn_J3_dec (RN.of rfl rfl rfl rfl) rfl rfl (Nat.le_of_ble_eq_true rfl) dJ3_pollLast_12 (Nat.le_of_ble_eq_true rfl) (Nat.le_of_ble_eq_true rfl) ?_
  refine AW.topi (congrArg nI (dp_p hhd (by omega))) ?_
  refine a_dup cx dJ3_pollLast_15 rfl ?_
  refine a_istore_n cx dJ3_pollLast_16 (Nat.le_of_ble_eq_true rfl) rfl ?_
  refine c_Sp cx (j3_elementAt (x := x) cx.htr he hdl2 (by have := hf l.length (by omega); rw [getD_app2, if_neg (by omega), if_pos rfl] at this; exact this)) (lw_S q1366 q1367 q82 q1368) dn_J3_elementAt (RN.of rfl rfl rfl rfl) rfl rfl (Nat.le_of_ble_eq_true rfl) dJ3_pollLast_17 (Nat.le_of_ble_eq_true rfl) (Nat.le_of_ble_eq_true rfl) ?_
  refine a_astore_n cx dJ3_pollLast_20 (Nat.le_of_ble_eq_true rfl) rfl ?_
  refine a_aload_n cx dJ3_pollLast_21 rfl ?_
  refine a_ifnull cx dJ3_pollLast_22 ?_
  refine a_aload_n cx dJ3_pollLast_25 rfl ?_
  refine a_aload_n cx dJ3_pollLast_26 rfl ?_
  refine a_iload_n cx dJ3_pollLast_27 rfl ?_
  refine a_dup_x1 cx dJ3_pollLast_28 rfl rfl ?_
  refine a_put cx fl_J3_20 dJ3_pollLast_29 ha rfl rfl (by exact (Nat.le_of_ble_eq_true rfl)) ?_
  refine a_null cx dJ3_pollLast_32 ?_
  refine a_aastN cx dJ3_pollLast_33 ((hset_n hne).trans he) hBe rfl hdl2 (by omega) ?_
  refine a_aload_n cx dJ3_pollLast_34 rfl ?_
  exact a_aret cx hq dJ3_pollLast_35 (Or.inl ⟨_, rfl⟩) ⟨rfl, ⟨(hset_n (Ne.symm hne)).trans (hset_s _ _ _), ⟨_, hset_s _ _ _, fun i hi => by
  have q := hf i (by omega)
  rw [getD_app2, if_pos hi] at q
  have n9 := dp_ne (hd := hd) hhd (show l.length ≤ 9 by omega) hi
  simp only [va_up, n9, if_false]
  exact q⟩, hhd, by omega⟩, fun q h1 h2 => (hset_n h2).trans (hset_n h1)⟩ (Nat.le_of_ble_eq_true rfl) (Nat.le_of_ble_eq_true rfl)
abbrev rm_J3_removeLast : Room := { frames := 2, cells := 0, slots := 0, locals := 44 }
set_option maxHeartbeats 4000000 in
theorem j3_removeLast {lx : Launch} {g : GP} {h : AH} (htr : lx.stackTraces = false) {a el hd x : Nat} {l : List Nat} (hD : DQ g h a el hd (l ++ [x])) : KT lx g yJ3_removeLast (ws_ yJ3_removeLast cJ3_removeLast 2 (some (.object "java/lang/Object"))) rm_J3_removeLast 0 0 [.ref a] h (fun v h' => v = some (.ref x) ∧ DQ g h' a el hd l ∧ ∀ q, q ≠ a → q ≠ el → h' q = h q) (noX) := by
  refine KT.of (by decide +kernel) htr (Nat.le_of_ble_eq_true rfl) (L0 := [some (.ref a), none]) rfl ?_
  intro M cx hl9 hq hin hnx
  refine a_aload_n cx dJ3_removeLast_0 rfl ?_
  refine c_V cx (j3_pollLast cx.htr hD) (lw_V q1941 q1942 q1943 q82 q1944) dn_J3_pollLast (RN.of rfl rfl rfl rfl) rfl hD.1 rfl rfl rfl (Nat.le_of_ble_eq_true rfl) dJ3_removeLast_1 (Nat.le_of_ble_eq_true rfl) (Nat.le_of_ble_eq_true rfl) (fun v9 h hp9 => ?_) (fun E9 q9 h9 hx9 => hx9.elim)
  obtain ⟨rfl, hD2, hq2⟩ := hp9
  refine a_astore_n cx dJ3_removeLast_4 (Nat.le_of_ble_eq_true rfl) rfl ?_
  refine a_aload_n cx dJ3_removeLast_5 rfl ?_
  refine a_ifnonnull cx (tgt := 17) dJ3_removeLast_6 (by decide) ?_
  refine a_aload_n cx dJ3_removeLast_17 rfl ?_
  exact a_aret cx hq dJ3_removeLast_18 (Or.inl ⟨_, rfl⟩) ⟨rfl, hD2, hq2⟩ (Nat.le_of_ble_eq_true rfl) (Nat.le_of_ble_eq_true rfl)
