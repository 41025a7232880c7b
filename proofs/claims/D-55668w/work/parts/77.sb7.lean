/-! STRINGS: hashCode, contains -/
set_option maxRecDepth 100000
def zf (s : List Nat) : Int32 := if shash s = 0 then 1 else 0
theorem shash_up {s : List Nat} {k : Nat} (hk : k < s.length) : 31 * shash (s.take k) + nI (s.getD k 0) = shash (s.take (k + 1)) := by
  rw [List.getD_eq_getElem?_getD, List.getElem?_eq_getElem hk, List.take_succ_eq_append_getElem hk]
  unfold shash
  rw [List.foldl_append]
  rfl
/-- s stands in t at i -/
def occ (t s : List Nat) (i : Nat) : Bool := decide (i + s.length ≤ t.length) && (List.range s.length).all (fun j => t.getD (i + j) 0 == s.getD j 0)
def has (t s : List Nat) : Bool := (List.range (t.length + 1)).any (occ t s)
theorem occ_iff {t s : List Nat} {i : Nat} : occ t s i = true ↔ i + s.length ≤ t.length ∧ ∀ j, j < s.length → t.getD (i + j) 0 = s.getD j 0 := by
  simp [occ]
theorem has_t {t s : List Nat} {i : Nat} (h : occ t s i = true) : has t s = true := by
  have h1 := occ_iff.mp h
  unfold has
  rw [List.any_eq_true]
  exact ⟨i, List.mem_range.mpr (by omega), h⟩
theorem has_f {t s : List Nat} (h : ∀ i, i + s.length ≤ t.length → occ t s i = false) : has t s = false := by
  unfold has
  rw [List.any_eq_false]
  intro i hi
  by_cases h1 : i + s.length ≤ t.length
  · rw [h i h1]; decide
  · intro h2
    exact h1 (occ_iff.mp h2).1
abbrev rm_J15_signedHashCode : Room := { frames := 0, cells := 0, slots := 0, locals := 0 }
set_option maxHeartbeats 4000000 in
theorem j15_signedHashCode {lx : Launch} {g : GP} {h : AH} (htr : lx.stackTraces = false) {b : Nat} {s : List Nat} (hb : h b = some (eI (g.2.1 1) s.length (sCh s))) (hs : asc s) : KT lx g yJ15_signedHashCode (ws_ yJ15_signedHashCode cJ15_signedHashCode 6 (some .int)) rm_J15_signedHashCode 0 0 [.int 0, .ref b, .int 0, .int (nI s.length)] h (isP (.int (shash s)) h) (noX) := by
  refine KT.of (by decide +kernel) htr (Nat.le_of_ble_eq_true rfl) (L0 := [some (.int 0), some (.ref b), some (.int 0), some (.int (nI s.length)), none, none]) rfl ?_
  intro M cx hl9 hq hin hnx
  have hs16 := hs.1
  refine a_iload_n cx dJ15_signedHashCode_0 rfl ?_
  refine a_iload_n cx dJ15_signedHashCode_1 rfl ?_
  refine a_iadd cx dJ15_signedHashCode_2 ?_
  refine AW.topi (show _ = nI s.length from Int32.zero_add _) ?_
  refine a_istore cx dJ15_signedHashCode_3 (Nat.le_of_ble_eq_true rfl) rfl ?_
  refine a_iload_n cx dJ15_signedHashCode_5 rfl ?_
  refine a_istore cx dJ15_signedHashCode_6 (Nat.le_of_ble_eq_true rfl) rfl ?_
  have loop : ∀ (j k : Nat), k ≤ s.length → s.length < k + j → AW g M 0 0 8 [some (.int (shash (s.take k))), some (.ref b), some (.int 0), some (.int (nI s.length)), some (.int (nI s.length)), some (.int (nI k))] [] h := by
    intro j
    induction j with
    | zero => intro k h1 h2; omega
    | succ j ih =>
      intro k h1 h2
      refine a_iload cx dJ15_signedHashCode_8 rfl ?_
      refine a_iload cx dJ15_signedHashCode_10 rfl ?_
      refine a_icmp_ge cx (tgt := 35) dJ15_signedHashCode_12 (by decide) (fun c12 => ?_) (fun c12 => ?_)
      · have d12 := le_nI c12 (by omega) (by omega)
        have e12 : s.take k = s := List.take_of_length_le d12
        refine a_iload_n cx dJ15_signedHashCode_35 rfl ?_
        exact a_iret cx hq dJ15_signedHashCode_36 ⟨by rw [e12], rfl⟩ (Nat.le_of_ble_eq_true rfl) (Nat.le_of_ble_eq_true rfl)
      · have d12 := nle_nI c12 (by omega) (by omega)
        refine a_bipush cx (v := 31) dJ15_signedHashCode_15 (by decide) ?_
        refine a_iload_n cx dJ15_signedHashCode_17 rfl ?_
        refine a_imul cx dJ15_signedHashCode_18 ?_
        refine a_aload_n cx dJ15_signedHashCode_19 rfl ?_
        refine a_iload cx dJ15_signedHashCode_20 rfl ?_
        refine a_bald cx dJ15_signedHashCode_22 hb rfl (by omega) (by omega) ?_
        refine a_sipush cx (v := 255) dJ15_signedHashCode_23 (by decide) ?_
        refine a_iand cx dJ15_signedHashCode_26 ?_
        refine AW.topi (sb_255 _ hs.at) ?_
        refine a_iadd cx dJ15_signedHashCode_27 ?_
        refine AW.topi (shash_up d12) ?_
        refine a_istore_n cx dJ15_signedHashCode_28 (Nat.le_of_ble_eq_true rfl) rfl ?_
        refine a_iincN cx dJ15_signedHashCode_29 rfl (Nat.le_of_ble_eq_true rfl) rfl ?_
        refine a_goto cx (tgt := 8) dJ15_signedHashCode_32 (by decide) ?_
        exact ih (k + 1) (by omega) (by omega)
  exact loop (s.length + 1) 0 (by omega) (by omega)
abbrev rm_J15_vectorizedHashCode : Room := { frames := 1, cells := 0, slots := 0, locals := 25 }
set_option maxHeartbeats 4000000 in
theorem j15_vectorizedHashCode {lx : Launch} {g : GP} {h : AH} (htr : lx.stackTraces = false) {b : Nat} {s : List Nat} (hb : h b = some (eI (g.2.1 1) s.length (sCh s))) (hs : asc s) : KT lx g yJ15_vectorizedHashCode (ws_ yJ15_vectorizedHashCode cJ15_vectorizedHashCode 5 (some .int)) rm_J15_vectorizedHashCode 0 0 [.ref b, .int 0, .int (nI s.length), .int 0, .int 4] h (isP (.int (shash s)) h) (noX) := by
  refine KT.of (by decide +kernel) htr (Nat.le_of_ble_eq_true rfl) (L0 := [some (.ref b), some (.int 0), some (.int (nI s.length)), some (.int 0), some (.int 4)]) rfl ?_
  intro M cx hl9 hq hin hnx
  refine a_iload cx dJ15_vectorizedHashCode_0 rfl ?_
  refine a_tabIn cx (tgt := 44) dJ15_vectorizedHashCode_2 (by decide) (by decide) rfl (by decide) ?_
  refine a_iload_n cx dJ15_vectorizedHashCode_44 rfl ?_
  refine a_aload_n cx dJ15_vectorizedHashCode_45 rfl ?_
  refine a_castB cx q1086 dJ15_vectorizedHashCode_46 hb ?_
  refine a_iload_n cx dJ15_vectorizedHashCode_49 rfl ?_
  refine a_iload_n cx dJ15_vectorizedHashCode_50 rfl ?_
  refine c_Sp cx (j15_signedHashCode cx.htr hb hs) (lw_S q1087 q1088 q96 q1089) dn_J15_signedHashCode (RN.of rfl rfl rfl rfl) rfl rfl (Nat.le_of_ble_eq_true rfl) dJ15_vectorizedHashCode_51 (Nat.le_of_ble_eq_true rfl) (Nat.le_of_ble_eq_true rfl) ?_
  refine a_goto cx (tgt := 157) dJ15_vectorizedHashCode_54 (by decide) ?_
  exact a_iret cx hq dJ15_vectorizedHashCode_157 ⟨rfl, rfl⟩ (Nat.le_of_ble_eq_true rfl) (Nat.le_of_ble_eq_true rfl)
abbrev rm_J18_hashCode0 : Room := { frames := 4, cells := 0, slots := 0, locals := 100 }
set_option maxHeartbeats 4000000 in
theorem j18_hashCode0 {lx : Launch} {g : GP} {h : AH} (htr : lx.stackTraces = false) {b : Nat} {s : List Nat} (hb : h b = some (eI (g.2.1 1) s.length (sCh s))) (hs : asc s) (h0 : s.length = 0) : KT lx g yJ18_hashCode (ws_ yJ18_hashCode cJ18_hashCode 1 (some .int)) rm_J18_hashCode0 0 0 [.ref b] h (isP (.int (shash s)) h) (noX) := by
  refine KT.of (by decide +kernel) htr (Nat.le_of_ble_eq_true rfl) (L0 := [some (.ref b)]) rfl ?_
  intro M cx hl9 hq hin hnx
  refine a_aload_n cx dJ18_hashCode_0 rfl ?_
  refine a_alen1 cx dJ18_hashCode_1 hb ?_
  refine AW.topi (show nI s.length = 0 by rw [h0]; rfl) ?_
  refine a_lookup cx (tgt := 28) dJ18_hashCode_2 (by decide) rfl (by decide) ?_
  refine a_iconst cx (v := 0) dJ18_hashCode_28 (by decide) ?_
  refine a_goto cx (tgt := 51) dJ18_hashCode_29 (by decide) ?_
  exact a_iret cx hq dJ18_hashCode_51 ⟨by rw [List.length_eq_zero_iff.mp h0]; rfl, rfl⟩ (Nat.le_of_ble_eq_true rfl) (Nat.le_of_ble_eq_true rfl)
abbrev rm_J18_hashCode1 : Room := { frames := 4, cells := 0, slots := 0, locals := 100 }
set_option maxHeartbeats 4000000 in
theorem j18_hashCode1 {lx : Launch} {g : GP} {h : AH} (htr : lx.stackTraces = false) {b : Nat} {s : List Nat} (hb : h b = some (eI (g.2.1 1) s.length (sCh s))) (hs : asc s) (h1 : s.length = 1) : KT lx g yJ18_hashCode (ws_ yJ18_hashCode cJ18_hashCode 1 (some .int)) rm_J18_hashCode1 0 0 [.ref b] h (isP (.int (shash s)) h) (noX) := by
  refine KT.of (by decide +kernel) htr (Nat.le_of_ble_eq_true rfl) (L0 := [some (.ref b)]) rfl ?_
  intro M cx hl9 hq hin hnx
  refine a_aload_n cx dJ18_hashCode_0 rfl ?_
  refine a_alen1 cx dJ18_hashCode_1 hb ?_
  refine AW.topi (show nI s.length = 1 by rw [h1]; rfl) ?_
  refine a_lookup cx (tgt := 32) dJ18_hashCode_2 (by decide) rfl (by decide) ?_
  refine a_aload_n cx dJ18_hashCode_32 rfl ?_
  refine a_iconst cx (v := 0) dJ18_hashCode_33 (by decide) ?_
  refine a_bald cx dJ18_hashCode_34 hb (show (0 : Int32) = nI 0 from rfl) (by omega) (by omega) ?_
  refine a_sipush cx (v := 255) dJ18_hashCode_35 (by decide) ?_
  refine a_iand cx dJ18_hashCode_38 ?_
  refine AW.topi (sb_255 _ hs.at) ?_
  refine a_goto cx (tgt := 51) dJ18_hashCode_39 (by decide) ?_
  exact a_iret cx hq dJ18_hashCode_51 ⟨by obtain ⟨c, rfl⟩ := List.length_eq_one_iff.mp h1; exact congrArg (fun z => some (Value.int z)) (show nI c = 31 * 0 + Int32.ofNat c from (by rw [Int32.mul_zero, Int32.zero_add]; rfl)), rfl⟩ (Nat.le_of_ble_eq_true rfl) (Nat.le_of_ble_eq_true rfl)
theorem lk_off : ∀ n : Nat, 2 ≤ n → Op.lookupswitch.offset [((0 : Int), (26 : Int)), (1, 30)] 40 (n : Int) = 40 := by
  intro n hn
  rw [Op.lookupswitch.offset_cons, if_neg (by omega), Op.lookupswitch.offset_cons, if_neg (by omega)]
  rfl
abbrev rm_J18_hashCode2 : Room := { frames := 4, cells := 0, slots := 0, locals := 100 }
set_option maxHeartbeats 4000000 in
theorem j18_hashCode2 {lx : Launch} {g : GP} {h : AH} (htr : lx.stackTraces = false) {b : Nat} {s : List Nat} (hb : h b = some (eI (g.2.1 1) s.length (sCh s))) (hs : asc s) (h2 : 2 ≤ s.length) : KT lx g yJ18_hashCode (ws_ yJ18_hashCode cJ18_hashCode 1 (some .int)) rm_J18_hashCode2 0 0 [.ref b] h (isP (.int (shash s)) h) (noX) := by
  refine KT.of (by decide +kernel) htr (Nat.le_of_ble_eq_true rfl) (L0 := [some (.ref b)]) rfl ?_
  intro M cx hl9 hq hin hnx
  refine a_aload_n cx dJ18_hashCode_0 rfl ?_
  refine a_alen1 cx dJ18_hashCode_1 hb ?_
  refine a_lookup cx (off := 40) (tgt := 42) dJ18_hashCode_2 (by decide) (by rw [nI_toInt (by have := hs.1; omega)]; exact lk_off _ h2) (by decide) ?_
  refine a_aload_n cx dJ18_hashCode_42 rfl ?_
  refine a_iconst cx (v := 0) dJ18_hashCode_43 (by decide) ?_
  refine a_aload_n cx dJ18_hashCode_44 rfl ?_
  refine a_alen1 cx dJ18_hashCode_45 hb ?_
  refine a_iconst cx (v := 0) dJ18_hashCode_46 (by decide) ?_
  refine a_iconst cx (v := 4) dJ18_hashCode_47 (by decide) ?_
  refine c_Sp cx (j15_vectorizedHashCode cx.htr hb hs) (lw_S q1083 q1084 q96 q1085) dn_J15_vectorizedHashCode (RN.of rfl rfl rfl rfl) rfl rfl (Nat.le_of_ble_eq_true rfl) dJ18_hashCode_48 (Nat.le_of_ble_eq_true rfl) (Nat.le_of_ble_eq_true rfl) ?_
  exact a_iret cx hq dJ18_hashCode_51 ⟨rfl, rfl⟩ (Nat.le_of_ble_eq_true rfl) (Nat.le_of_ble_eq_true rfl)
theorem j18_hashCode {l : Launch} {g : GP} {h : AH} (htr : l.stackTraces = false) {b : Nat} {s : List Nat} (hb : h b = some (eI (g.2.1 1) s.length (sCh s))) (hs : asc s) : KT l g yJ18_hashCode (ws_ yJ18_hashCode cJ18_hashCode 1 (some .int)) rm_J18_hashCode2 0 0 [.ref b] h (isP (.int (shash s)) h) noX := by
  by_cases h0 : s.length = 0
  · exact j18_hashCode0 htr hb hs h0
  · by_cases h1 : s.length = 1
    · exact j18_hashCode1 htr hb hs h1
    · exact j18_hashCode2 htr hb hs (by omega)
abbrev rm_J6_hashCode : Room := { frames := 5, cells := 0, slots := 0, locals := 120 }
set_option maxHeartbeats 4000000 in
theorem j6_hashCode {lx : Launch} {g : GP} {h : AH} (htr : lx.stackTraces = false) {a b : Nat} {s : List Nat} {hs hz : Int32} (ha : h a = some (eO 15 [.ref b, .int 0, .int hs, .int hz])) (hb : h b = some (eI (g.2.1 1) s.length (sCh s))) (hs9 : asc s) (hh : (hs = 0 ∧ hz = 0 ∧ gB g ≤ a) ∨ (hs = shash s ∧ hz = zf s)) : KT lx g yJ6_hashCode (ws_ yJ6_hashCode cJ6_hashCode 2 (some .int)) rm_J6_hashCode 0 0 [.ref a] h (fun v h' => v = some (.int (shash s)) ∧ h' = hset h a (eO 15 [.ref b, .int 0, .int (shash s), .int (zf s)])) (noX) := by
  refine KT.of (by decide +kernel) htr (Nat.le_of_ble_eq_true rfl) (L0 := [some (.ref a), none]) rfl ?_
  intro M cx hl9 hq hin hnx
  refine a_aload_n cx dJ6_hashCode_0 rfl ?_
  refine a_get cx fl_J6_19.g dJ6_hashCode_1 (by assumption) (by exact rfl) ?_
  refine a_istore_n cx dJ6_hashCode_4 (Nat.le_of_ble_eq_true rfl) rfl ?_
  refine a_iload_n cx dJ6_hashCode_5 rfl ?_
  refine a_if_ne cx (tgt := 58) dJ6_hashCode_6 (by decide) (fun c6 => ?_) (fun c6 => ?_)
  · have e6 := hh.resolve_left (fun z => c6 z.1)
    refine a_iload_n cx dJ6_hashCode_58 rfl ?_
    exact a_iret cx hq dJ6_hashCode_59 ⟨by rw [e6.1], by rw [← e6.1, ← e6.2]; exact (hset_same ha).symm⟩ (Nat.le_of_ble_eq_true rfl) (Nat.le_of_ble_eq_true rfl)
  · refine a_aload_n cx dJ6_hashCode_9 rfl ?_
    refine a_get cx fl_J6_23.g dJ6_hashCode_10 (by assumption) (by exact rfl) ?_
    refine a_if_ne cx (tgt := 58) dJ6_hashCode_13 (by decide) (fun c13 => ?_) (fun c13 => ?_)
    · have e13 := hh.resolve_left (fun z => c13 z.2.1)
      refine a_iload_n cx dJ6_hashCode_58 rfl ?_
      exact a_iret cx hq dJ6_hashCode_59 ⟨by rw [e13.1], by rw [← e13.1, ← e13.2]; exact (hset_same ha).symm⟩ (Nat.le_of_ble_eq_true rfl) (Nat.le_of_ble_eq_true rfl)
    · have e13 : gB g ≤ a := by
        rcases hh with z | z
        · exact z.2.2
        · exfalso
          have e1 : shash s = 0 := z.1.symm.trans c6
          have e2 := z.2.symm.trans c13
          rw [zf, if_pos e1] at e2
          exact absurd e2 (by decide)
      subst c6; subst c13
      refine a_aload_n cx dJ6_hashCode_16 rfl ?_
      refine c_Vp cx (j6_isLatin1 cx.htr ha) (lw_V q1076 q1077 q1078 q85 q1079) dn_J6_isLatin1 (RN.of rfl rfl rfl rfl) rfl (by assumption) rfl rfl rfl (Nat.le_of_ble_eq_true rfl) dJ6_hashCode_17 (Nat.le_of_ble_eq_true rfl) (Nat.le_of_ble_eq_true rfl) ?_
      refine a_if_eq cx (tgt := 33) dJ6_hashCode_20 (by decide) (fun c20 => absurd c20 (by decide)) (fun c20 => ?_)
      refine a_aload_n cx dJ6_hashCode_23 rfl ?_
      refine a_get cx fl_J6_9.g dJ6_hashCode_24 (by assumption) (by exact rfl) ?_
      refine c_Sp cx (j18_hashCode cx.htr hb hs9) (lw_S q1080 q1081 q102 q1082) dn_J18_hashCode (RN.of rfl rfl rfl rfl) rfl rfl (Nat.le_of_ble_eq_true rfl) dJ6_hashCode_27 (Nat.le_of_ble_eq_true rfl) (Nat.le_of_ble_eq_true rfl) ?_
      refine a_goto cx (tgt := 40) dJ6_hashCode_30 (by decide) ?_
      refine a_istore_n cx dJ6_hashCode_40 (Nat.le_of_ble_eq_true rfl) rfl ?_
      refine a_iload_n cx dJ6_hashCode_41 rfl ?_
      refine a_if_ne cx (tgt := 53) dJ6_hashCode_42 (by decide) (fun c42 => ?_) (fun c42 => ?_)
      · refine a_aload_n cx dJ6_hashCode_53 rfl ?_
        refine a_iload_n cx dJ6_hashCode_54 rfl ?_
        refine a_putB cx fl_J6_19 dJ6_hashCode_55 (by assumption) e13 rfl rfl (by exact (Nat.le_of_ble_eq_true rfl)) ?_
        refine a_iload_n cx dJ6_hashCode_58 rfl ?_
        exact a_iret cx hq dJ6_hashCode_59 ⟨rfl, by rw [zf, if_neg c42]; rfl⟩ (Nat.le_of_ble_eq_true rfl) (Nat.le_of_ble_eq_true rfl)
      · refine a_aload_n cx dJ6_hashCode_45 rfl ?_
        refine a_iconst cx (v := 1) dJ6_hashCode_46 (by decide) ?_
        refine a_putB cx fl_J6_23 dJ6_hashCode_47 (by assumption) e13 rfl rfl (by exact (Nat.le_of_ble_eq_true rfl)) ?_
        refine a_goto cx (tgt := 58) dJ6_hashCode_50 (by decide) ?_
        refine a_iload_n cx dJ6_hashCode_58 rfl ?_
        exact a_iret cx hq dJ6_hashCode_59 ⟨rfl, by rw [zf, if_pos c42, c42]; rfl⟩ (Nat.le_of_ble_eq_true rfl) (Nat.le_of_ble_eq_true rfl)
abbrev rm_J6_toString : Room := { frames := 0, cells := 0, slots := 0, locals := 0 }
set_option maxHeartbeats 4000000 in
theorem j6_toString {lx : Launch} {g : GP} {h : AH} (htr : lx.stackTraces = false) {a : Nat} : KT lx g yJ6_toString (ws_ yJ6_toString cJ6_toString 1 (some (.object "java/lang/String"))) rm_J6_toString 0 0 [.ref a] h (isP (.ref a) h) (noX) := by
  refine KT.of (by decide +kernel) htr (Nat.le_of_ble_eq_true rfl) (L0 := [some (.ref a)]) rfl ?_
  intro M cx hl9 hq hin hnx
  refine a_aload_n cx dJ6_toString_0 rfl ?_
  exact a_aret cx hq dJ6_toString_1 (Or.inl ⟨_, rfl⟩) ⟨rfl, rfl⟩ (Nat.le_of_ble_eq_true rfl) (Nat.le_of_ble_eq_true rfl)
theorem occ_no {t s : List Nat} {i : Nat} (h0 : 0 < s.length) (h : ¬ t.getD i 0 = s.getD 0 0) : occ t s i = false := by
  cases ho : occ t s i with
  | false => rfl
  | true => exact absurd ((occ_iff.mp ho).2 0 h0) h
theorem occ_hi {t s : List Nat} {i : Nat} (h : t.length < i + s.length) : occ t s i = false := by
  cases ho : occ t s i with
  | false => rfl
  | true => have := (occ_iff.mp ho).1; omega
theorem occ_at {t s : List Nat} {i j : Nat} (hj : j < s.length) (h : ¬ t.getD (i + j) 0 = s.getD j 0) : occ t s i = false := by
  cases ho : occ t s i with
  | false => rfl
  | true => exact absurd ((occ_iff.mp ho).2 j hj) h
theorem occ_up {t s : List Nat} {k : Nat} (h : ∀ i, i < k → occ t s i = false) (hk : occ t s k = false) : ∀ i, i < k + 1 → occ t s i = false := by
  intro i hi
  by_cases e : i = k
  · subst e; exact hk
  · exact h i (by omega)
abbrev rm_J18_indexOf_2 : Room := { frames := 0, cells := 0, slots := 0, locals := 0 }
set_option maxHeartbeats 4000000 in
theorem j18_indexOf_2 {lx : Launch} {g : GP} {h : AH} (htr : lx.stackTraces = false) {b c : Nat} {t s : List Nat} (hb : h b = some (eI (g.2.1 1) t.length (sCh t))) (hc : h c = some (eI (g.2.1 1) s.length (sCh s))) (at_ : asc t) (as : asc s) (h0 : 0 < s.length) (hl : s.length ≤ t.length) : KT lx g yJ18_indexOf_2 (ws_ yJ18_indexOf_2 cJ18_indexOf_2 11 (some .int)) rm_J18_indexOf_2 0 0 [.ref b, .int (nI t.length), .ref c, .int (nI s.length), .int 0] h (fun v h' => ∃ r, v = some (.int r) ∧ h' = h ∧ ((∃ i, i < 2 ^ 16 ∧ r = nI i ∧ occ t s i = true) ∨ (r = -1 ∧ ∀ i, i + s.length ≤ t.length → occ t s i = false))) (noX) := by
  refine KT.of (by decide +kernel) htr (Nat.le_of_ble_eq_true rfl) (L0 := [some (.ref b), some (.int (nI t.length)), some (.ref c), some (.int (nI s.length)), some (.int 0), none, none, none, none, none, none]) rfl ?_
  intro M cx hl9 hq hin hnx
  have ht16 := at_.1
  have hs16 := as.1
  refine a_aload_n cx dJ18_indexOf_2_0 rfl ?_
  refine a_iconst cx (v := 0) dJ18_indexOf_2_1 (by decide) ?_
  refine a_bald cx dJ18_indexOf_2_2 hc (show (0 : Int32) = nI 0 from rfl) h0 (by omega) ?_
  refine a_istore cx dJ18_indexOf_2_3 (Nat.le_of_ble_eq_true rfl) rfl ?_
  refine a_iload_n cx dJ18_indexOf_2_5 rfl ?_
  refine a_iload_n cx dJ18_indexOf_2_6 rfl ?_
  refine a_isub cx dJ18_indexOf_2_7 ?_
  refine AW.topi (pk_sub hl) ?_
  refine a_istore cx dJ18_indexOf_2_8 (Nat.le_of_ble_eq_true rfl) rfl ?_
  refine a_iload cx dJ18_indexOf_2_10 rfl ?_
  refine a_istore cx dJ18_indexOf_2_12 (Nat.le_of_ble_eq_true rfl) rfl ?_
  have loop : ∀ (j k : Nat), k ≤ t.length + 2 → t.length + 2 < k + j → (∀ i, i < k → occ t s i = false) → AW g M 0 0 14 [some (.ref b), some (.int (nI t.length)), some (.ref c), some (.int (nI s.length)), some (.int 0), some (.int (sCh s 0)), some (.int (nI (t.length - s.length))), some (.int (nI k)), none, none, none] [] h := by
    intro j
    induction j with
    | zero => intro k h1 h2; omega
    | succ j ih =>
      intro k h1 h2 hx0
      refine a_iload cx dJ18_indexOf_2_14 rfl ?_
      refine a_iload cx dJ18_indexOf_2_16 rfl ?_
      refine a_icmp_gt cx (tgt := 119) dJ18_indexOf_2_18 (by decide) (fun c18 => ?_) (fun c18 => ?_)
      · have d18 := lt_nI c18 (by omega) (by omega)
        refine a_iconst cx (v := -1) dJ18_indexOf_2_119 (by decide) ?_
        exact a_iret cx hq dJ18_indexOf_2_120 ⟨_, rfl, rfl, Or.inr ⟨rfl, fun i hi => hx0 i (by omega)⟩⟩ (Nat.le_of_ble_eq_true rfl) (Nat.le_of_ble_eq_true rfl)
      · have d18 : k ≤ t.length - s.length := Nat.le_of_not_lt (fun z => c18 (nI_lt z (by omega)))
        have L52 : ∀ k1 : Nat, k ≤ k1 → k1 ≤ t.length - s.length + 1 → (∀ i, i < k1 → occ t s i = false) → (k1 ≤ t.length - s.length → t.getD k1 0 = s.getD 0 0) → AW g M 0 0 52 [some (.ref b), some (.int (nI t.length)), some (.ref c), some (.int (nI s.length)), some (.int 0), some (.int (sCh s 0)), some (.int (nI (t.length - s.length))), some (.int (nI k1)), none, none, none] [] h := by
          intro k1 h3 h4 hx1 hm1
          refine a_iload cx dJ18_indexOf_2_52 rfl ?_
          refine a_iload cx dJ18_indexOf_2_54 rfl ?_
          refine a_icmp_gt cx (tgt := 113) dJ18_indexOf_2_56 (by decide) (fun c56 => ?_) (fun c56 => ?_)
          · have d56 := lt_nI c56 (by omega) (by omega)
            have hx2 := occ_up hx1 (occ_hi (by omega))
            refine a_iincN cx dJ18_indexOf_2_113 rfl (Nat.le_of_ble_eq_true rfl) rfl ?_
            refine a_goto cx (tgt := 14) dJ18_indexOf_2_116 (by decide) ?_
            refine AW.loc ?_ (ih (k1 + 1) (by omega) (by omega) hx2)
            exact ⟨rfl, rfl, rfl, rfl, rfl, rfl, rfl, rfl, trivial⟩
          · have d56 : k1 ≤ t.length - s.length := Nat.le_of_not_lt (fun z => c56 (nI_lt z (by omega)))
            refine a_iload cx dJ18_indexOf_2_59 rfl ?_
            refine a_iconst cx (v := 1) dJ18_indexOf_2_61 (by decide) ?_
            refine a_iadd cx dJ18_indexOf_2_62 ?_
            refine AW.topi (nI_1 _) ?_
            refine a_istore cx dJ18_indexOf_2_63 (Nat.le_of_ble_eq_true rfl) rfl ?_
            refine a_iload cx dJ18_indexOf_2_65 rfl ?_
            refine a_iload_n cx dJ18_indexOf_2_67 rfl ?_
            refine a_iadd cx dJ18_indexOf_2_68 ?_
            refine AW.topi (nI_add _ _) ?_
            refine a_iconst cx (v := 1) dJ18_indexOf_2_69 (by decide) ?_
            refine a_isub cx dJ18_indexOf_2_70 ?_
            refine AW.topi (show _ = nI (k1 + s.length) from (show nI (k1 + 1 + s.length) - nI 1 = _ from pk_sub (by omega)).trans (by congr 1; omega)) ?_
            refine a_istore cx dJ18_indexOf_2_71 (Nat.le_of_ble_eq_true rfl) rfl ?_
            refine a_iconst cx (v := 1) dJ18_indexOf_2_73 (by decide) ?_
            refine a_istore cx dJ18_indexOf_2_74 (Nat.le_of_ble_eq_true rfl) rfl ?_
            have inner : ∀ (j3 q : Nat), 1 ≤ q → q ≤ s.length → s.length < q + j3 → (∀ i, i < q → t.getD (k1 + i) 0 = s.getD i 0) → AW g M 0 0 76 [some (.ref b), some (.int (nI t.length)), some (.ref c), some (.int (nI s.length)), some (.int 0), some (.int (sCh s 0)), some (.int (nI (t.length - s.length))), some (.int (nI k1)), some (.int (nI (k1 + q))), some (.int (nI (k1 + s.length))), some (.int (nI q))] [] h := by
              intro j3
              induction j3 with
              | zero => intro q h6 h7 h8; omega
              | succ j3 ih3 =>
                intro q h6 h7 h8 hx3
                refine a_iload cx dJ18_indexOf_2_76 rfl ?_
                refine a_iload cx dJ18_indexOf_2_78 rfl ?_
                refine a_icmp_ge cx (tgt := 103) dJ18_indexOf_2_80 (by decide) (fun c80 => ?_) (fun c80 => ?_)
                · have d80 := le_nI c80 (by omega) (by omega)
                  have e80 : q = s.length := by omega
                  subst e80
                  refine a_iload cx dJ18_indexOf_2_103 rfl ?_
                  refine a_iload cx dJ18_indexOf_2_105 rfl ?_
                  refine a_icmp_ne cx (tgt := 113) dJ18_indexOf_2_107 (by decide) (fun c107 => absurd rfl c107) (fun c107 => ?_)
                  refine a_iload cx dJ18_indexOf_2_110 rfl ?_
                  exact a_iret cx hq dJ18_indexOf_2_112 ⟨_, rfl, rfl, Or.inl ⟨k1, by omega, rfl, occ_iff.mpr ⟨by omega, hx3⟩⟩⟩ (Nat.le_of_ble_eq_true rfl) (Nat.le_of_ble_eq_true rfl)
                · have d80 := nle_nI c80 (by omega) (by omega)
                  refine a_aload_n cx dJ18_indexOf_2_83 rfl ?_
                  refine a_iload cx dJ18_indexOf_2_84 rfl ?_
                  refine a_bald cx dJ18_indexOf_2_86 hb rfl (by omega) (by omega) ?_
                  refine a_aload_n cx dJ18_indexOf_2_87 rfl ?_
                  refine a_iload cx dJ18_indexOf_2_88 rfl ?_
                  refine a_bald cx dJ18_indexOf_2_90 hc rfl (by omega) (by omega) ?_
                  refine a_icmp_ne cx (tgt := 103) dJ18_indexOf_2_91 (by decide) (fun c91 => ?_) (fun c91 => ?_)
                  · have hx2 := occ_up hx1 (occ_at (j := q) (by omega) (fun z => c91 (show sb_b _ = sb_b _ by rw [z])))
                    refine a_iload cx dJ18_indexOf_2_103 rfl ?_
                    refine a_iload cx dJ18_indexOf_2_105 rfl ?_
                    refine a_icmp_ne cx (tgt := 113) dJ18_indexOf_2_107 (by decide) (fun c107 => ?_) (fun c107 => absurd (nI_inj (by omega) (by omega) c107) (by omega))
                    refine a_iincN cx dJ18_indexOf_2_113 rfl (Nat.le_of_ble_eq_true rfl) rfl ?_
                    refine a_goto cx (tgt := 14) dJ18_indexOf_2_116 (by decide) ?_
                    refine AW.loc ?_ (ih (k1 + 1) (by omega) (by omega) hx2)
                    exact ⟨rfl, rfl, rfl, rfl, rfl, rfl, rfl, rfl, trivial⟩
                  · refine a_iincN cx dJ18_indexOf_2_94 rfl (Nat.le_of_ble_eq_true rfl) rfl ?_
                    refine a_iincN cx dJ18_indexOf_2_97 rfl (Nat.le_of_ble_eq_true rfl) rfl ?_
                    refine a_goto cx (tgt := 76) dJ18_indexOf_2_100 (by decide) ?_
                    exact ih3 (q + 1) (by omega) (by omega) (by omega) (fun i hi => by
                      by_cases e : i = q
                      · subst e; exact sb_inj at_.at as.at c91
                      · exact hx3 i (by omega))
            exact inner s.length 1 (by omega) (by omega) (by omega) (fun i hi => by rw [show i = 0 by omega]; exact hm1 d56)
        have scan : ∀ (j2 k1 : Nat), k ≤ k1 → k1 ≤ t.length - s.length → t.length < k1 + j2 → (∀ i, i < k1 + 1 → occ t s i = false) → AW g M 0 0 30 [some (.ref b), some (.int (nI t.length)), some (.ref c), some (.int (nI s.length)), some (.int 0), some (.int (sCh s 0)), some (.int (nI (t.length - s.length))), some (.int (nI k1)), none, none, none] [] h := by
          intro j2
          induction j2 with
          | zero => intro k1 h3 h4 h5; omega
          | succ j2 ih2 =>
            intro k1 h3 h4 h5 hx1
            refine a_iincN cx dJ18_indexOf_2_30 rfl (Nat.le_of_ble_eq_true rfl) rfl ?_
            refine a_iload cx dJ18_indexOf_2_33 rfl ?_
            refine a_iload cx dJ18_indexOf_2_35 rfl ?_
            refine a_icmp_gt cx (tgt := 52) dJ18_indexOf_2_37 (by decide) (fun c37 => ?_) (fun c37 => ?_)
            · have d37 := lt_nI c37 (by omega) (by omega)
              have hgo := L52 (k1 + 1) (by omega) (by omega) hx1 (fun z => absurd z (by omega))
              exact hgo
            · have d37 : k1 + 1 ≤ t.length - s.length := Nat.le_of_not_lt (fun z => c37 (nI_lt z (by omega)))
              refine a_aload_n cx dJ18_indexOf_2_40 rfl ?_
              refine a_iload cx dJ18_indexOf_2_41 rfl ?_
              refine a_bald cx dJ18_indexOf_2_43 hb rfl (by omega) (by omega) ?_
              refine a_iload cx dJ18_indexOf_2_44 rfl ?_
              refine a_icmp_eq cx (tgt := 52) dJ18_indexOf_2_46 (by decide) (fun c46 => ?_) (fun c46 => ?_)
              · have hgo := L52 (k1 + 1) (by omega) (by omega) hx1 (fun _ => sb_inj at_.at as.at c46)
                exact hgo
              · have hgo := ih2 (k1 + 1) (by omega) (by omega) (by omega) (occ_up hx1 (occ_no h0 (fun z => c46 (show sb_b _ = sb_b _ by rw [z]))))
                refine a_goto cx (tgt := 30) dJ18_indexOf_2_49 (by decide) ?_
                exact hgo
        refine a_aload_n cx dJ18_indexOf_2_21 rfl ?_
        refine a_iload cx dJ18_indexOf_2_22 rfl ?_
        refine a_bald cx dJ18_indexOf_2_24 hb rfl (by omega) (by omega) ?_
        refine a_iload cx dJ18_indexOf_2_25 rfl ?_
        refine a_icmp_eq cx (tgt := 52) dJ18_indexOf_2_27 (by decide) (fun c27 => ?_) (fun c27 => ?_)
        · have hgo := L52 k (Nat.le_refl k) (by omega) hx0 (fun _ => sb_inj at_.at as.at c27)
          exact hgo
        · have hgo := scan (t.length + 1) k (Nat.le_refl k) d18 (by omega) (occ_up hx0 (occ_no h0 (fun z => c27 (show sb_b _ = sb_b _ by rw [z]))))
          exact hgo
  exact loop (t.length + 3) 0 (by omega) (by omega) (fun i hi => absurd hi (Nat.not_lt_zero _))
abbrev rm_J18_indexOf : Room := { frames := 1, cells := 0, slots := 0, locals := 30 }
set_option maxHeartbeats 4000000 in
theorem j18_indexOf {lx : Launch} {g : GP} {h : AH} (htr : lx.stackTraces = false) {b c : Nat} {t s : List Nat} (hb : h b = some (eI (g.2.1 1) t.length (sCh t))) (hc : h c = some (eI (g.2.1 1) s.length (sCh s))) (at_ : asc t) (as : asc s) (h0 : 0 < s.length) (hl : s.length ≤ t.length) : KT lx g yJ18_indexOf (ws_ yJ18_indexOf cJ18_indexOf 2 (some .int)) rm_J18_indexOf 0 0 [.ref b, .ref c] h (fun v h' => ∃ r, v = some (.int r) ∧ h' = h ∧ ((∃ i, i < 2 ^ 16 ∧ r = nI i ∧ occ t s i = true) ∨ (r = -1 ∧ ∀ i, i + s.length ≤ t.length → occ t s i = false))) (noX) := by
  refine KT.of (by decide +kernel) htr (Nat.le_of_ble_eq_true rfl) (L0 := [some (.ref b), some (.ref c)]) rfl ?_
  intro M cx hl9 hq hin hnx
  refine a_aload_n cx dJ18_indexOf_0 rfl ?_
  refine a_alen1 cx dJ18_indexOf_1 hc ?_
  refine a_if_ne cx (tgt := 7) dJ18_indexOf_2 (by decide) (fun c2 => ?_) (fun c2 => absurd (nI_inj (b := 0) (by have := as.1; omega) (by omega) c2) (by omega))
  refine a_aload_n cx dJ18_indexOf_7 rfl ?_
  refine a_alen1 cx dJ18_indexOf_8 hb ?_
  refine a_if_ne cx (tgt := 14) dJ18_indexOf_9 (by decide) (fun c9 => ?_) (fun c9 => absurd (nI_inj (b := 0) (by have := at_.1; omega) (by omega) c9) (by omega))
  refine a_aload_n cx dJ18_indexOf_14 rfl ?_
  refine a_aload_n cx dJ18_indexOf_15 rfl ?_
  refine a_alen1 cx dJ18_indexOf_16 hb ?_
  refine a_aload_n cx dJ18_indexOf_17 rfl ?_
  refine a_aload_n cx dJ18_indexOf_18 rfl ?_
  refine a_alen1 cx dJ18_indexOf_19 hc ?_
  refine a_iconst cx (v := 0) dJ18_indexOf_20 (by decide) ?_
  refine c_S cx (j18_indexOf_2 cx.htr hb hc at_ as h0 hl) (lw_S q1862 q1863 q102 q1864) dn_J18_indexOf_2 (RN.of rfl rfl rfl rfl) rfl rfl (Nat.le_of_ble_eq_true rfl) dJ18_indexOf_21 (Nat.le_of_ble_eq_true rfl) (Nat.le_of_ble_eq_true rfl) (fun v9 h hp9 => ?_) (fun E9 q9 h9 hx9 => hx9.elim)
  obtain ⟨r, rfl, rfl, hr⟩ := hp9
  exact a_iret cx hq dJ18_indexOf_24 ⟨r, rfl, rfl, hr⟩ (Nat.le_of_ble_eq_true rfl) (Nat.le_of_ble_eq_true rfl)
abbrev rm_J6_indexOf : Room := { frames := 2, cells := 0, slots := 0, locals := 51 }
set_option maxHeartbeats 4000000 in
theorem j6_indexOf {lx : Launch} {g : GP} {h : AH} (htr : lx.stackTraces = false) {a c : Nat} {t s : List Nat} (hT : StrAt g h a t) (hS : StrAt g h c s) (at_ : asc t) (as : asc s) (h0 : 0 < s.length) (hl : s.length ≤ t.length) : KT lx g yJ6_indexOf (ws_ yJ6_indexOf cJ6_indexOf 3 (some .int)) rm_J6_indexOf 0 0 [.ref a, .ref c] h (fun v h' => ∃ r, v = some (.int r) ∧ h' = h ∧ ((∃ i, i < 2 ^ 16 ∧ r = nI i ∧ occ t s i = true) ∨ (r = -1 ∧ ∀ i, i + s.length ≤ t.length → occ t s i = false))) (noX) := by
  refine KT.of (by decide +kernel) htr (Nat.le_of_ble_eq_true rfl) (L0 := [some (.ref a), some (.ref c), none]) rfl ?_
  intro M cx hl9 hq hin hnx
  obtain ⟨b, hs, hz, ha, hb, hh⟩ := id hT
  obtain ⟨b2, hs2, hz2, ha2, hb2, hh2⟩ := id hS
  refine a_aload_n cx dJ6_indexOf_0 rfl ?_
  refine c_Vp cx (j6_coder cx.htr ha) (lw_V q879 q880 q881 q85 q882) dn_J6_coder (RN.of rfl rfl rfl rfl) rfl ha rfl rfl rfl (Nat.le_of_ble_eq_true rfl) dJ6_indexOf_1 (Nat.le_of_ble_eq_true rfl) (Nat.le_of_ble_eq_true rfl) ?_
  refine a_istore_n cx dJ6_indexOf_4 (Nat.le_of_ble_eq_true rfl) rfl ?_
  refine a_iload_n cx dJ6_indexOf_5 rfl ?_
  refine a_aload_n cx dJ6_indexOf_6 rfl ?_
  refine c_Vp cx (j6_coder cx.htr ha2) (lw_V q879 q880 q881 q85 q882) dn_J6_coder (RN.of rfl rfl rfl rfl) rfl ha2 rfl rfl rfl (Nat.le_of_ble_eq_true rfl) dJ6_indexOf_7 (Nat.le_of_ble_eq_true rfl) (Nat.le_of_ble_eq_true rfl) ?_
  refine a_icmp_ne cx (tgt := 46) dJ6_indexOf_10 (by decide) (fun c10 => absurd rfl c10) (fun c10 => ?_)
  refine a_aload_n cx dJ6_indexOf_13 rfl ?_
  refine c_Vp cx (j6_isLatin1 cx.htr ha) (lw_V q1076 q1077 q1078 q85 q1079) dn_J6_isLatin1 (RN.of rfl rfl rfl rfl) rfl ha rfl rfl rfl (Nat.le_of_ble_eq_true rfl) dJ6_indexOf_14 (Nat.le_of_ble_eq_true rfl) (Nat.le_of_ble_eq_true rfl) ?_
  refine a_if_eq cx (tgt := 34) dJ6_indexOf_17 (by decide) (fun c17 => absurd c17 (by decide)) (fun c17 => ?_)
  refine a_aload_n cx dJ6_indexOf_20 rfl ?_
  refine a_get cx fl_J6_9.g dJ6_indexOf_21 ha (by exact rfl) ?_
  refine a_aload_n cx dJ6_indexOf_24 rfl ?_
  refine a_get cx fl_J6_9.g dJ6_indexOf_25 ha2 (by exact rfl) ?_
  refine c_S cx (j18_indexOf cx.htr hb hb2 at_ as h0 hl) (lw_S q1859 q1860 q102 q1861) dn_J18_indexOf (RN.of rfl rfl rfl rfl) rfl rfl (Nat.le_of_ble_eq_true rfl) dJ6_indexOf_28 (Nat.le_of_ble_eq_true rfl) (Nat.le_of_ble_eq_true rfl) (fun v9 h hp9 => ?_) (fun E9 q9 h9 hx9 => hx9.elim)
  obtain ⟨r, rfl, rfl, hr⟩ := hp9
  refine a_goto cx (tgt := 45) dJ6_indexOf_31 (by decide) ?_
  exact a_iret cx hq dJ6_indexOf_45 ⟨r, rfl, rfl, hr⟩ (Nat.le_of_ble_eq_true rfl) (Nat.le_of_ble_eq_true rfl)
abbrev rm_J6_contains : Room := { frames := 3, cells := 0, slots := 0, locals := 73 }
set_option maxHeartbeats 4000000 in
theorem j6_contains {lx : Launch} {g : GP} {h : AH} (htr : lx.stackTraces = false) {a c : Nat} {t s : List Nat} (hT : StrAt g h a t) (hS : StrAt g h c s) (at_ : asc t) (as : asc s) (h0 : 0 < s.length) (hl : s.length ≤ t.length) : KT lx g yJ6_contains (ws_ yJ6_contains cJ6_contains 2 (some .boolean)) rm_J6_contains 0 0 [.ref a, .ref c] h (isP (.int (bI (has t s))) h) (noX) := by
  refine KT.of (by decide +kernel) htr (Nat.le_of_ble_eq_true rfl) (L0 := [some (.ref a), some (.ref c)]) rfl ?_
  intro M cx hl9 hq hin hnx
  obtain ⟨b, hs, hz, ha, hb, hh⟩ := id hT
  obtain ⟨b2, hs2, hz2, ha2, hb2, hh2⟩ := id hS
  refine a_aload_n cx dJ6_contains_0 rfl ?_
  refine a_aload_n cx dJ6_contains_1 rfl ?_
  refine c_F cx (j6_toString (a := c) cx.htr) (lw_F q1844 q1847 q1849 q85 q1851) (by decide +kernel) ⟨by decide, by decide, by decide +kernel⟩ (RN.of rfl rfl rfl rfl) rfl ha2 rfl rfl rfl (Nat.le_of_ble_eq_true rfl) dJ6_contains_2 (Nat.le_of_ble_eq_true rfl) (Nat.le_of_ble_eq_true rfl) (fun v9 h hp9 => ?_) (fun E9 q9 h9 hx9 => hx9.elim)
  obtain ⟨rfl, rfl⟩ := hp9
  refine c_V cx (j6_indexOf cx.htr hT hS at_ as h0 hl) (lw_V q1855 q1856 q1857 q85 q1858) dn_J6_indexOf (RN.of rfl rfl rfl rfl) rfl ha rfl rfl rfl (Nat.le_of_ble_eq_true rfl) dJ6_contains_7 (Nat.le_of_ble_eq_true rfl) (Nat.le_of_ble_eq_true rfl) (fun v9 h hp9 => ?_) (fun E9 q9 h9 hx9 => hx9.elim)
  obtain ⟨r, rfl, rfl, hr⟩ := hp9
  refine a_if_lt cx (tgt := 17) dJ6_contains_10 (by decide) (fun c10 => ?_) (fun c10 => ?_)
  · have e10 : has t s = false := by
      rcases hr with ⟨i, hi, e, ho⟩ | ⟨e, ho⟩
      · rw [e] at c10; exact absurd c10 (nI_pos (by omega))
      · exact has_f ho
    refine a_iconst cx (v := 0) dJ6_contains_17 (by decide) ?_
    exact a_zret cx hq dJ6_contains_18 rfl ⟨by rw [e10]; rfl, rfl⟩ (Nat.le_of_ble_eq_true rfl) (Nat.le_of_ble_eq_true rfl)
  · have e10 : has t s = true := by
      rcases hr with ⟨i, hi, e, ho⟩ | ⟨e, ho⟩
      · exact has_t ho
      · rw [e] at c10; exact absurd (by decide) c10
    refine a_iconst cx (v := 1) dJ6_contains_13 (by decide) ?_
    refine a_goto cx (tgt := 18) dJ6_contains_14 (by decide) ?_
    exact a_zret cx hq dJ6_contains_18 rfl ⟨by rw [e10]; rfl, rfl⟩ (Nat.le_of_ble_eq_true rfl) (Nat.le_of_ble_eq_true rfl)
