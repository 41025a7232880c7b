/-! STRINGBUILDERS: numbers added; new ones; letters out; toString -/
set_option maxRecDepth 100000
theorem nlt10 {v : Nat} (hv : v < 100) : (-nI v ≤ -10 → 9 < v) ∧ (¬ -nI v ≤ -10 → ¬ 9 < v) := sb_cmp v 10 (fun h => by omega) (fun h => by omega) (by omega)
theorem nlt100 {v : Nat} (hv : v < 100) : ¬ -nI v ≤ -100 := (sb_cmp (A := False) (B := ¬ -nI v ≤ -100) v 100 (fun h => by omega) (fun h q => by have := (sb_nle (a := v) (b := 100) (by omega) (by omega)).mp q; omega) (by omega)).2 (fun q => by have := (sb_nle (a := v) (b := 100) (by omega) (by omega)).mp q; omega)
abbrev rm_J20_stringSize : Room := { frames := 0, cells := 0, slots := 0, locals := 0 }
set_option maxHeartbeats 4000000 in
theorem j20_stringSize {lx : Launch} {g : GP} {h : AH} (htr : lx.stackTraces = false) {v : Nat} (hv : v < 100) : KT lx g yJ20_stringSize (ws_ yJ20_stringSize cJ20_stringSize 4 (some .int)) rm_J20_stringSize 0 0 [.int (nI v)] h (isP (.int (nI (if 9 < v then 2 else 1))) h) (noX) := by
  refine KT.of (by decide +kernel) htr (Nat.le_of_ble_eq_true rfl) (L0 := [some (.int (nI v)), none, none, none]) rfl ?_
  intro M cx hl9 hq hin hnx
  refine a_iconst cx (v := 1) dJ20_stringSize_0 (by decide) ?_
  refine a_istore_n cx dJ20_stringSize_1 (Nat.le_of_ble_eq_true rfl) rfl ?_
  refine a_iload_n cx dJ20_stringSize_2 rfl ?_
  refine a_if_lt cx (tgt := 11) dJ20_stringSize_3 (by decide) (fun c3 => absurd c3 (nI_pos (by omega))) (fun c3 => ?_)
  refine a_iconst cx (v := 0) dJ20_stringSize_6 (by decide) ?_
  refine a_istore_n cx dJ20_stringSize_7 (Nat.le_of_ble_eq_true rfl) rfl ?_
  refine a_iload_n cx dJ20_stringSize_8 rfl ?_
  refine a_ineg cx dJ20_stringSize_9 ?_
  refine a_istore_n cx dJ20_stringSize_10 (Nat.le_of_ble_eq_true rfl) rfl ?_
  refine a_bipush cx (v := -10) dJ20_stringSize_11 (by decide) ?_
  refine a_istore_n cx dJ20_stringSize_13 (Nat.le_of_ble_eq_true rfl) rfl ?_
  refine a_iconst cx (v := 1) dJ20_stringSize_14 (by decide) ?_
  refine a_istore_n cx dJ20_stringSize_15 (Nat.le_of_ble_eq_true rfl) rfl ?_
  refine a_iload_n cx dJ20_stringSize_16 rfl ?_
  refine a_bipush cx (v := 10) dJ20_stringSize_17 (by decide) ?_
  refine a_icmp_ge cx (tgt := 42) dJ20_stringSize_19 (by decide) (fun c19 => absurd c19 (by decide)) (fun c19 => ?_)
  refine a_iload_n cx dJ20_stringSize_22 rfl ?_
  refine a_iload_n cx dJ20_stringSize_23 rfl ?_
  refine a_icmp_le cx (tgt := 31) dJ20_stringSize_24 (by decide) (fun c24 => ?_) (fun c24 => ?_)
  · have d24 := (nlt10 hv).1 c24
    refine a_bipush cx (v := 10) dJ20_stringSize_31 (by decide) ?_
    refine a_iload_n cx dJ20_stringSize_33 rfl ?_
    refine a_imul cx dJ20_stringSize_34 ?_
    refine a_istore_n cx dJ20_stringSize_35 (Nat.le_of_ble_eq_true rfl) rfl ?_
    refine a_iinc cx dJ20_stringSize_36 rfl rfl (Nat.le_of_ble_eq_true rfl) rfl ?_
    refine a_goto cx (tgt := 16) dJ20_stringSize_39 (by decide) ?_
    refine a_iload_n cx dJ20_stringSize_16 rfl ?_
    refine a_bipush cx (v := 10) dJ20_stringSize_17 (by decide) ?_
    refine a_icmp_ge cx (tgt := 42) dJ20_stringSize_19 (by decide) (fun c19 => absurd c19 (by decide)) (fun c19 => ?_)
    refine a_iload_n cx dJ20_stringSize_22 rfl ?_
    refine a_iload_n cx dJ20_stringSize_23 rfl ?_
    refine a_icmp_le cx (tgt := 31) dJ20_stringSize_24 (by decide) (fun c24 => absurd c24 (nlt100 hv)) (fun c24 => ?_)
    refine a_iload_n cx dJ20_stringSize_27 rfl ?_
    refine a_iload_n cx dJ20_stringSize_28 rfl ?_
    refine a_iadd cx dJ20_stringSize_29 ?_
    exact a_iret cx hq dJ20_stringSize_30 ⟨by rw [if_pos d24]; rfl, rfl⟩ (Nat.le_of_ble_eq_true rfl) (Nat.le_of_ble_eq_true rfl)
  · have d24 := (nlt10 hv).2 c24
    have r : (if 9 < v then 2 else 1) = 1 := if_neg d24
    refine a_iload_n cx dJ20_stringSize_27 rfl ?_
    refine a_iload_n cx dJ20_stringSize_28 rfl ?_
    refine a_iadd cx dJ20_stringSize_29 ?_
    exact a_iret cx hq dJ20_stringSize_30 ⟨by rw [r]; rfl, rfl⟩ (Nat.le_of_ble_eq_true rfl) (Nat.le_of_ble_eq_true rfl)
theorem sb_nar2 : ∀ v, v < 100 → vp_nar .byte (dOnes v) = sb_b (48 + v % 10) ∧ vp_nar .byte (dTens v) = sb_b (48 + v / 10) := by decide +kernel
abbrev rm_J20_getChars1 : Room := { frames := 0, cells := 0, slots := 0, locals := 0 }
set_option maxHeartbeats 4000000 in
theorem j20_getChars1 {lx : Launch} {g : GP} {h : AH} (htr : lx.stackTraces = false) {b cap p v : Nat} {f : Nat → Int32} (hb : h b = some (eI (g.2.1 1) cap f)) (hB : gB g ≤ b) (hc : cap < 200) (hp : p + 1 ≤ cap) (hv : v < 10) : KT lx g yJ20_getChars (ws_ yJ20_getChars cJ20_getChars 7 (some .int)) rm_J20_getChars1 0 0 [.int (nI v), .int (nI (p + 1)), .ref b] h (fun v9 h' => v9 = some (.int (nI p)) ∧ h' = hset h b (eI (g.2.1 1) cap (upd f p (sb_b (48 + v))))) (noX) := by
  refine KT.of (by decide +kernel) htr (Nat.le_of_ble_eq_true rfl) (L0 := [some (.int (nI v)), some (.int (nI (p + 1))), some (.ref b), none, none, none, none]) rfl ?_
  intro M cx hl9 hq hin hnx
  refine AW.hk fun hk9 => ?_
  have d25 : (-100 : Int32) < -nI v := by rw [Int32.not_le.symm]; exact nlt100 (by omega)
  have d88 : (-9 : Int32) ≤ -nI v := (sb_nle (a := 9) (b := v) (by omega) (by omega)).mpr (by omega)
  refine a_iload_n cx dJ20_getChars_0 rfl ?_
  refine a_istore cx dJ20_getChars_1 (Nat.le_of_ble_eq_true rfl) rfl ?_
  refine a_iload_n cx dJ20_getChars_3 rfl ?_
  refine a_if_ge cx (tgt := 11) dJ20_getChars_4 (by decide) (fun c4 => ?_) (fun c4 => absurd (nI_pos' (by omega)) c4)
  refine a_iconst cx (v := 0) dJ20_getChars_11 (by decide) ?_
  refine a_istore cx dJ20_getChars_12 (Nat.le_of_ble_eq_true rfl) rfl ?_
  refine a_iload cx dJ20_getChars_14 rfl ?_
  refine a_if_ne cx (tgt := 22) dJ20_getChars_16 (by decide) (fun c16 => absurd rfl c16) (fun c16 => ?_)
  refine a_iload_n cx dJ20_getChars_19 rfl ?_
  refine a_ineg cx dJ20_getChars_20 ?_
  refine a_istore_n cx dJ20_getChars_21 (Nat.le_of_ble_eq_true rfl) rfl ?_
  refine a_iload_n cx dJ20_getChars_22 rfl ?_
  refine a_bipush cx (v := -100) dJ20_getChars_23 (by decide) ?_
  refine a_icmp_gt cx (tgt := 72) dJ20_getChars_25 (by decide) (fun c25 => ?_) (fun c25 => absurd d25 c25)
  refine a_aload_n cx dJ20_getChars_72 rfl ?_
  refine a_iinc cx dJ20_getChars_73 rfl (show nI (p + 1) + Int32.ofInt (-1) = nI p from by rw [show Int32.ofInt (-1) = -1 from rfl]; exact sb_m1 (p := p + 1) (by omega)) (Nat.le_of_ble_eq_true rfl) rfl ?_
  refine a_iload cx dJ20_getChars_76 rfl ?_
  refine a_gets cx cx.hG.don q931 dJ20_getChars_78 ?_
  refine a_iload_n cx dJ20_getChars_81 rfl ?_
  refine a_ineg cx dJ20_getChars_82 ?_
  refine AW.topi (show _ = nI v from by rw [Int32.neg_neg]) ?_
  refine a_bald cx dJ20_getChars_83 hk9.2.2.2.2 rfl (by omega) (by omega) ?_
  refine a_bast cx dJ20_getChars_84 hb hB rfl (by omega) (by omega) (sb_nard v (by omega)).symm ?_
  refine a_iload_n cx dJ20_getChars_85 rfl ?_
  refine a_bipush cx (v := -9) dJ20_getChars_86 (by decide) ?_
  refine a_icmp_ge cx (tgt := 104) dJ20_getChars_88 (by decide) (fun c88 => ?_) (fun c88 => absurd d88 c88)
  refine a_iload cx dJ20_getChars_104 rfl ?_
  refine a_if_eq cx (tgt := 118) dJ20_getChars_106 (by decide) (fun c106 => ?_) (fun c106 => absurd rfl c106)
  refine a_iload cx dJ20_getChars_118 rfl ?_
  exact a_iret cx hq dJ20_getChars_120 ⟨rfl, rfl⟩ (Nat.le_of_ble_eq_true rfl) (Nat.le_of_ble_eq_true rfl)
abbrev rm_J20_getChars2 : Room := { frames := 0, cells := 0, slots := 0, locals := 0 }
set_option maxHeartbeats 4000000 in
theorem j20_getChars2 {lx : Launch} {g : GP} {h : AH} (htr : lx.stackTraces = false) {b cap p v : Nat} {f : Nat → Int32} (hb : h b = some (eI (g.2.1 1) cap f)) (hB : gB g ≤ b) (hc : cap < 200) (hp : p + 2 ≤ cap) (hv : v < 100) (hv9 : 9 < v) : KT lx g yJ20_getChars (ws_ yJ20_getChars cJ20_getChars 7 (some .int)) rm_J20_getChars2 0 0 [.int (nI v), .int (nI (p + 2)), .ref b] h (fun v9 h' => v9 = some (.int (nI p)) ∧ h' = hset h b (eI (g.2.1 1) cap (upd (upd f (p + 1) (sb_b (48 + v % 10))) p (sb_b (48 + v / 10))))) (noX) := by
  refine KT.of (by decide +kernel) htr (Nat.le_of_ble_eq_true rfl) (L0 := [some (.int (nI v)), some (.int (nI (p + 2))), some (.ref b), none, none, none, none]) rfl ?_
  intro M cx hl9 hq hin hnx
  refine AW.hk fun hk9 => ?_
  have d25 : (-100 : Int32) < -nI v := by rw [Int32.not_le.symm]; exact nlt100 (by omega)
  have d88 : ¬ (-9 : Int32) ≤ -nI v := fun z => by have := (sb_nle (a := 9) (b := v) (by omega) (by omega)).mp z; omega
  have hk8 : gs g 1 ≠ b := by have := cx.hG.ss 1 (by omega); omega
  refine a_iload_n cx dJ20_getChars_0 rfl ?_
  refine a_istore cx dJ20_getChars_1 (Nat.le_of_ble_eq_true rfl) rfl ?_
  refine a_iload_n cx dJ20_getChars_3 rfl ?_
  refine a_if_ge cx (tgt := 11) dJ20_getChars_4 (by decide) (fun c4 => ?_) (fun c4 => absurd (nI_pos' (by omega)) c4)
  refine a_iconst cx (v := 0) dJ20_getChars_11 (by decide) ?_
  refine a_istore cx dJ20_getChars_12 (Nat.le_of_ble_eq_true rfl) rfl ?_
  refine a_iload cx dJ20_getChars_14 rfl ?_
  refine a_if_ne cx (tgt := 22) dJ20_getChars_16 (by decide) (fun c16 => absurd rfl c16) (fun c16 => ?_)
  refine a_iload_n cx dJ20_getChars_19 rfl ?_
  refine a_ineg cx dJ20_getChars_20 ?_
  refine a_istore_n cx dJ20_getChars_21 (Nat.le_of_ble_eq_true rfl) rfl ?_
  refine a_iload_n cx dJ20_getChars_22 rfl ?_
  refine a_bipush cx (v := -100) dJ20_getChars_23 (by decide) ?_
  refine a_icmp_gt cx (tgt := 72) dJ20_getChars_25 (by decide) (fun c25 => ?_) (fun c25 => absurd d25 c25)
  refine a_aload_n cx dJ20_getChars_72 rfl ?_
  refine a_iinc cx dJ20_getChars_73 rfl (show nI (p + 2) + Int32.ofInt (-1) = nI (p + 1) from by rw [show Int32.ofInt (-1) = -1 from rfl]; exact sb_m1 (p := p + 2) (by omega)) (Nat.le_of_ble_eq_true rfl) rfl ?_
  refine a_iload cx dJ20_getChars_76 rfl ?_
  refine a_gets cx cx.hG.don q931 dJ20_getChars_78 ?_
  refine a_iload_n cx dJ20_getChars_81 rfl ?_
  refine a_ineg cx dJ20_getChars_82 ?_
  refine AW.topi (show _ = nI v from by rw [Int32.neg_neg]) ?_
  refine a_bald cx dJ20_getChars_83 hk9.2.2.2.2 rfl (by omega) (by omega) ?_
  refine a_bast cx dJ20_getChars_84 hb hB rfl (by omega) (by omega) (sb_nar2 v hv).1.symm ?_
  refine a_iload_n cx dJ20_getChars_85 rfl ?_
  refine a_bipush cx (v := -9) dJ20_getChars_86 (by decide) ?_
  refine a_icmp_ge cx (tgt := 104) dJ20_getChars_88 (by decide) (fun c88 => absurd c88 d88) (fun c88 => ?_)
  refine a_aload_n cx dJ20_getChars_91 rfl ?_
  refine a_iinc cx dJ20_getChars_92 rfl (show nI (p + 1) + Int32.ofInt (-1) = nI p from by rw [show Int32.ofInt (-1) = -1 from rfl]; exact sb_m1 (p := p + 1) (by omega)) (Nat.le_of_ble_eq_true rfl) rfl ?_
  refine a_iload cx dJ20_getChars_95 rfl ?_
  refine a_gets cx cx.hG.dte q933 dJ20_getChars_97 ?_
  refine a_iload_n cx dJ20_getChars_100 rfl ?_
  refine a_ineg cx dJ20_getChars_101 ?_
  refine AW.topi (show _ = nI v from by rw [Int32.neg_neg]) ?_
  refine a_bald cx dJ20_getChars_102 ((hset_n hk8).trans hk9.2.2.2.1) rfl (by omega) (by omega) ?_
  refine a_bast cx dJ20_getChars_103 (hset_s _ _ _) hB rfl (by omega) (by omega) (sb_nar2 v hv).2.symm ?_
  refine a_iload cx dJ20_getChars_104 rfl ?_
  refine a_if_eq cx (tgt := 118) dJ20_getChars_106 (by decide) (fun c106 => ?_) (fun c106 => absurd rfl c106)
  refine a_iload cx dJ20_getChars_118 rfl ?_
  exact a_iret cx hq dJ20_getChars_120 ⟨rfl, by rw [hset_hset]⟩ (Nat.le_of_ble_eq_true rfl) (Nat.le_of_ble_eq_true rfl)
theorem j20_getChars {l : Launch} {g : GP} {h : AH} (htr : l.stackTraces = false) {b cap p v : Nat} {f : Nat → Int32} (hb : h b = some (eI (g.2.1 1) cap f)) (hB : gB g ≤ b) (hc : cap < 200) (hp : p + (dgN v).length ≤ cap) (hv : v < 100) : KT l g yJ20_getChars (ws_ yJ20_getChars cJ20_getChars 7 (some .int)) rm_J20_getChars2 0 0 [.int (nI v), .int (nI (p + (dgN v).length)), .ref b] h (fun v9 h' => v9 = some (.int (nI p)) ∧ h' = hset h b (eI (g.2.1 1) cap (gch f p v))) noX := by
  rw [dgN_len] at hp ⊢
  unfold gch
  by_cases h9 : 9 < v
  · rw [if_pos h9] at hp ⊢
    rw [if_pos h9]
    exact j20_getChars2 htr hb hB hc hp hv h9
  · rw [if_neg h9] at hp ⊢
    rw [if_neg h9, show v % 10 = v by omega]
    exact j20_getChars1 htr hb hB hc hp (by omega)
abbrev rm_J4_append_2 : Room := { frames := 4, cells := 1, slots := 200, locals := 100 }
set_option maxHeartbeats 4000000 in
theorem j4_append_2 {lx : Launch} {g : GP} {h : AH} (htr : lx.stackTraces = false) {a b cap v : Nat} {s : List Nat} (hS : SB g h a b cap s) (hv : v < 100) (hn : s.length + (dgN v).length ≤ 64) : KT lx g yJ4_append_2 (ws_ yJ4_append_2 cJ4_append_2 4 (some (.object "java/lang/AbstractStringBuilder"))) rm_J4_append_2 1 200 [.ref a, .int (nI v)] h (fun v9 h' => v9 = some (.ref a) ∧ APP g h a b (s ++ dgN v) h') (noX) := by
  refine KT.of (by decide +kernel) htr (Nat.le_of_ble_eq_true rfl) (L0 := [some (.ref a), some (.int (nI v)), none, none]) rfl ?_
  intro M cx hl9 hq hin hnx
  obtain ⟨ha, ⟨f, hb, hf, hfit⟩, hsc, h0, hc, hB⟩ := id hS
  refine a_aload_n cx dJ4_append_2_0 rfl ?_
  refine a_get cx fl_J4_79.g dJ4_append_2_1 (by assumption) (by exact rfl) ?_
  refine a_istore_n cx dJ4_append_2_4 (Nat.le_of_ble_eq_true rfl) rfl ?_
  refine a_iload_n cx dJ4_append_2_5 rfl ?_
  refine a_iload_n cx dJ4_append_2_6 rfl ?_
  refine c_Sp cx (j20_stringSize cx.htr hv) (lw_S q925 q926 q105 q927) dn_J20_stringSize (RN.of rfl rfl rfl rfl) rfl rfl (Nat.le_of_ble_eq_true rfl) dJ4_append_2_7 (Nat.le_of_ble_eq_true rfl) (Nat.le_of_ble_eq_true rfl) ?_
  refine a_iadd cx dJ4_append_2_10 ?_
  refine AW.topi (show _ = nI (s.length + (dgN v).length) from by rw [dgN_len]; exact nI_add _ _) ?_
  refine a_istore_n cx dJ4_append_2_11 (Nat.le_of_ble_eq_true rfl) rfl ?_
  refine a_aload_n cx dJ4_append_2_12 rfl ?_
  refine a_iload_n cx dJ4_append_2_13 rfl ?_
  refine c_P cx (j4_ensureCapacityInternal cx.htr hS (by omega)) (lw_meth q827) q824 q825 q826 q2426 q83 dn_J4_ensureCapacityInternal (RN.of rfl rfl rfl rfl) rfl ha rfl rfl (Nat.le_of_ble_eq_true rfl) dJ4_append_2_14 (Nat.le_of_ble_eq_true rfl) (Nat.le_of_ble_eq_true rfl) (fun v9 h hp9 => ?_) (fun E9 q9 h9 hx9 => hx9.elim)
  obtain ⟨rfl, b2, cap2, hS2, hn2, hb2, hf2⟩ := hp9
  obtain ⟨ha2, ⟨f2, hbb2, hff2, hfit2⟩, hsc2, h02, hc2, hB2⟩ := id hS2
  have hne2 := hS2.ne
  refine a_aload_n cx dJ4_append_2_17 rfl ?_
  refine c_U cx (j4_isLatin1 cx.htr ha2) (lw_U q844 q846 q847 q845 q83 q848) dn_J4_isLatin1 (RN.of rfl rfl rfl rfl) rfl ha2 rfl rfl rfl (Nat.le_of_ble_eq_true rfl) dJ4_append_2_18 (Nat.le_of_ble_eq_true rfl) (Nat.le_of_ble_eq_true rfl) (fun v9 h hp9 => ?_) (fun E9 q9 h9 hx9 => hx9.elim)
  obtain ⟨rfl, rfl⟩ := hp9
  refine a_if_eq cx (tgt := 37) dJ4_append_2_21 (by decide) (fun c21 => absurd c21 (by decide)) (fun c21 => ?_)
  refine a_iload_n cx dJ4_append_2_24 rfl ?_
  refine a_iload_n cx dJ4_append_2_25 rfl ?_
  refine a_aload_n cx dJ4_append_2_26 rfl ?_
  refine a_get cx fl_J4_15.g dJ4_append_2_27 ha2 (by exact rfl) ?_
  refine c_S cx (j20_getChars cx.htr hbb2 hB2 hc2 hn2 hv) (lw_S q928 q929 q105 q930) dn_J20_getChars (RN.of rfl rfl rfl rfl) rfl rfl (Nat.le_of_ble_eq_true rfl) dJ4_append_2_30 (Nat.le_of_ble_eq_true rfl) (Nat.le_of_ble_eq_true rfl) (fun v9 h hp9 => ?_) (fun E9 q9 h9 hx9 => hx9.elim)
  obtain ⟨rfl, rfl⟩ := hp9
  refine a_pop cx dJ4_append_2_33 rfl ?_
  refine a_goto cx (tgt := 48) dJ4_append_2_34 (by decide) ?_
  refine a_aload_n cx dJ4_append_2_48 rfl ?_
  refine a_iload_n cx dJ4_append_2_49 rfl ?_
  refine a_put cx fl_J4_79 dJ4_append_2_50 ((hset_n (Ne.symm hne2)).trans ha2) rfl rfl (by exact (Nat.le_of_ble_eq_true rfl)) ?_
  refine a_aload_n cx dJ4_append_2_53 rfl ?_
  exact a_aret cx hq dJ4_append_2_54 (Or.inl ⟨_, rfl⟩) ⟨rfl, APP.num hne2 hff2 hfit2 hn2 h02 hc2 hB2 hb2 hf2⟩ (Nat.le_of_ble_eq_true rfl) (Nat.le_of_ble_eq_true rfl)
abbrev rm_J5_append_2 : Room := { frames := 5, cells := 1, slots := 200, locals := 123 }
set_option maxHeartbeats 4000000 in
theorem j5_append_2 {lx : Launch} {g : GP} {h : AH} (htr : lx.stackTraces = false) {a b cap v : Nat} {s : List Nat} (hS : SB g h a b cap s) (hv : v < 100) (hn : s.length + (dgN v).length ≤ 64) : KT lx g yJ5_append_2 (ws_ yJ5_append_2 cJ5_append_2 2 (some (.object "java/lang/StringBuilder"))) rm_J5_append_2 1 200 [.ref a, .int (nI v)] h (fun v9 h' => v9 = some (.ref a) ∧ APP g h a b (s ++ dgN v) h') (noX) := by
  refine KT.of (by decide +kernel) htr (Nat.le_of_ble_eq_true rfl) (L0 := [some (.ref a), some (.int (nI v))]) rfl ?_
  intro M cx hl9 hq hin hnx
  refine a_aload_n cx dJ5_append_2_0 rfl ?_
  refine a_iload_n cx dJ5_append_2_1 rfl ?_
  refine c_SU cx (j4_append_2 cx.htr hS hv hn) (lw_SU q922 q2431 q241 q923 q83 q924) ⟨by decide, dn_J4_append_2.2.2⟩ (RN.of rfl rfl rfl rfl) rfl hS.1 rfl rfl rfl (Nat.le_of_ble_eq_true rfl) dJ5_append_2_2 (Nat.le_of_ble_eq_true rfl) (Nat.le_of_ble_eq_true rfl) (fun v9 h hp9 => ?_) (fun E9 q9 h9 hx9 => hx9.elim)
  obtain ⟨rfl, hA⟩ := hp9
  refine a_pop cx dJ5_append_2_5 rfl ?_
  refine a_aload_n cx dJ5_append_2_6 rfl ?_
  exact a_aret cx hq dJ5_append_2_7 (Or.inl ⟨_, rfl⟩) ⟨rfl, hA⟩ (Nat.le_of_ble_eq_true rfl) (Nat.le_of_ble_eq_true rfl)
abbrev rm_J4_init : Room := { frames := 1, cells := 1, slots := 16, locals := 20 }
set_option maxHeartbeats 4000000 in
theorem j4_init {lx : Launch} {g : GP} {h : AH} (htr : lx.stackTraces = false) {a : Nat} (ha : h a = some (eO 14 [.null, .int 0, .int 0, .int 0])) : KT lx g yJ4_init (ws_ yJ4_init cJ4_init 2 none) rm_J4_init 1 16 [.ref a, .int 16] h (fun v h' => ∃ b, v = none ∧ h b = none ∧ gB g ≤ b ∧ h' = hset (hset h b (eI (g.2.1 1) 16 (fun _ => 0))) a (eO 14 [.ref b, .int 0, .int 0, .int 0])) (noX) := by
  refine KT.of (by decide +kernel) htr (Nat.le_of_ble_eq_true rfl) (L0 := [some (.ref a), some (.int 16)]) rfl ?_
  intro M cx hl9 hq hin hnx
  refine a_aload_n cx dJ4_init_0 rfl ?_
  refine a_objInit cx q219 q124 q125 dJ4_init_1 (Nat.le_of_ble_eq_true rfl) (Nat.le_of_ble_eq_true rfl) ?_
  refine a_gets cx cx.hG.cst q220 dJ4_init_4 ?_
  refine a_if_eq cx (tgt := 25) dJ4_init_7 (by decide) (fun c7 => absurd c7 (by decide)) (fun c7 => ?_)
  refine a_aload_n cx dJ4_init_10 rfl ?_
  refine a_iload_n cx dJ4_init_11 rfl ?_
  refine a_newaB cx dJ4_init_12 (show (16 : Int32) = nI 16 from rfl) (by decide) (Nat.le_of_ble_eq_true rfl) (Nat.le_of_ble_eq_true rfl) (fun b n12 hB12 => ?_)
  have hne : a ≠ b := fun e => by rw [e, n12] at ha; cases ha
  refine a_put cx fl_J4_15 dJ4_init_14 ((hset_n hne).trans ha) rfl rfl (by exact (Nat.le_of_ble_eq_true rfl)) ?_
  refine a_aload_n cx dJ4_init_17 rfl ?_
  refine a_iconst cx (v := 0) dJ4_init_18 (by decide) ?_
  refine a_put cx fl_J4_22 dJ4_init_19 (hset_s _ _ _) rfl rfl (by exact (Nat.le_of_ble_eq_true rfl)) ?_
  refine a_goto cx (tgt := 38) dJ4_init_22 (by decide) ?_
  exact a_vret cx hq dJ4_init_38 ⟨b, rfl, n12, hB12, by rw [hset_hset]; rfl⟩ (Nat.le_of_ble_eq_true rfl) (Nat.le_of_ble_eq_true rfl)
abbrev rm_J5_init : Room := { frames := 2, cells := 1, slots := 16, locals := 41 }
set_option maxHeartbeats 4000000 in
theorem j5_init {lx : Launch} {g : GP} {h : AH} (htr : lx.stackTraces = false) {a : Nat} (ha : h a = some (eO 14 [.null, .int 0, .int 0, .int 0])) : KT lx g yJ5_init (ws_ yJ5_init cJ5_init 1 none) rm_J5_init 1 16 [.ref a] h (fun v h' => ∃ b, v = none ∧ h b = none ∧ gB g ≤ b ∧ h' = hset (hset h b (eI (g.2.1 1) 16 (fun _ => 0))) a (eO 14 [.ref b, .int 0, .int 0, .int 0])) (noX) := by
  refine KT.of (by decide +kernel) htr (Nat.le_of_ble_eq_true rfl) (L0 := [some (.ref a)]) rfl ?_
  intro M cx hl9 hq hin hnx
  refine a_aload_n cx dJ5_init_0 rfl ?_
  refine a_bipush cx (v := 16) dJ5_init_1 (by decide) ?_
  refine c_I cx (j4_init cx.htr ha) (lw_meth q218) q83 q216 q217 rfl dn_J4_init (RN.of rfl rfl rfl rfl) rfl rfl (Nat.le_of_ble_eq_true rfl) dJ5_init_3 (Nat.le_of_ble_eq_true rfl) (Nat.le_of_ble_eq_true rfl) (fun v9 h hp9 => ?_) (fun E9 q9 h9 hx9 => hx9.elim)
  obtain ⟨b, rfl, n3, hB3, rfl⟩ := hp9
  exact a_vret cx hq dJ5_init_6 ⟨b, rfl, n3, hB3, rfl⟩ (Nat.le_of_ble_eq_true rfl) (Nat.le_of_ble_eq_true rfl)
theorem SB.new {g : GP} {h : AH} {a b : Nat} (ha : h a = some (eO 14 [.null, .int 0, .int 0, .int 0])) (n3 : h b = none) (hB : gB g ≤ b) : SB g (hset (hset h b (eI (g.2.1 1) 16 (fun _ => 0))) a (eO 14 [.ref b, .int 0, .int 0, .int 0])) a b 16 [] := by
  have hne : b ≠ a := fun e => by rw [← e, n3] at ha; cases ha
  exact ⟨hset_s _ _ _, ⟨_, (hset_n hne).trans (hset_s _ _ _), fun i hi => absurd hi (Nat.not_lt_zero _), sb_fit0⟩, Nat.zero_le _, by decide, by decide, hB⟩
abbrev rm_J5_length : Room := { frames := 1, cells := 0, slots := 0, locals := 20 }
set_option maxHeartbeats 4000000 in
theorem j5_length {lx : Launch} {g : GP} {h : AH} (htr : lx.stackTraces = false) {a b : Nat} {m n : Int32} (ha : h a = some (eO 14 [.ref b, .int 0, .int m, .int n])) : KT lx g yJ5_length (ws_ yJ5_length cJ5_length 1 (some .int)) rm_J5_length 0 0 [.ref a] h (isP (.int n) h) (noX) := by
  refine KT.of (by decide +kernel) htr (Nat.le_of_ble_eq_true rfl) (L0 := [some (.ref a)]) rfl ?_
  intro M cx hl9 hq hin hnx
  refine a_aload_n cx dJ5_length_0 rfl ?_
  refine c_SU cx (j4_length cx.htr ha) (lw_SU q967 q963 q241 q962 q83 q968) ⟨by decide, dn_J4_length.2.2⟩ (RN.of rfl rfl rfl rfl) rfl ha rfl rfl rfl (Nat.le_of_ble_eq_true rfl) dJ5_length_1 (Nat.le_of_ble_eq_true rfl) (Nat.le_of_ble_eq_true rfl) (fun v9 h hp9 => ?_) (fun E9 q9 h9 hx9 => hx9.elim)
  obtain ⟨rfl, rfl⟩ := hp9
  exact a_iret cx hq dJ5_length_4 ⟨rfl, rfl⟩ (Nat.le_of_ble_eq_true rfl) (Nat.le_of_ble_eq_true rfl)
abbrev rm_J4_charAt : Room := { frames := 2, cells := 0, slots := 0, locals := 43 }
set_option maxHeartbeats 4000000 in
theorem j4_charAt {lx : Launch} {g : GP} {h : AH} (htr : lx.stackTraces = false) {a b cap i : Nat} {s : List Nat} (hS : SB g h a b cap s) (hs : asc s) (hi : i < s.length) : KT lx g yJ4_charAt (ws_ yJ4_charAt cJ4_charAt 5 (some .char)) rm_J4_charAt 0 0 [.ref a, .int (nI i)] h (isP (.int (nI (s.getD i 0))) h) (noX) := by
  refine KT.of (by decide +kernel) htr (Nat.le_of_ble_eq_true rfl) (L0 := [some (.ref a), some (.int (nI i)), none, none, none]) rfl ?_
  intro M cx hl9 hq hin hnx
  obtain ⟨ha, ⟨f, hb, hf, hfit⟩, hsc, h0, hc, hB⟩ := id hS
  refine a_aload_n cx dJ4_charAt_0 rfl ?_
  refine a_get cx fl_J4_22.g dJ4_charAt_1 (by assumption) (by exact rfl) ?_
  refine a_istore_n cx dJ4_charAt_4 (Nat.le_of_ble_eq_true rfl) rfl ?_
  refine a_aload_n cx dJ4_charAt_5 rfl ?_
  refine a_get cx fl_J4_15.g dJ4_charAt_6 (by assumption) (by exact rfl) ?_
  refine a_astore_n cx dJ4_charAt_9 (Nat.le_of_ble_eq_true rfl) rfl ?_
  refine a_aload_n cx dJ4_charAt_10 rfl ?_
  refine a_get cx fl_J4_79.g dJ4_charAt_11 (by assumption) (by exact rfl) ?_
  refine a_aload_n cx dJ4_charAt_14 rfl ?_
  refine a_alen1 cx dJ4_charAt_15 hb ?_
  refine a_iload_n cx dJ4_charAt_16 rfl ?_
  refine a_ishr cx dJ4_charAt_17 ?_
  refine AW.topi (shr0 _) ?_
  refine a_mmin cx (x := s.length) (y := cap) q1824 q556 q97 q557 (by omega) (by omega) dJ4_charAt_18 (Nat.le_of_ble_eq_true rfl) (Nat.le_of_ble_eq_true rfl) (Nat.le_of_ble_eq_true rfl) (Nat.le_of_ble_eq_true rfl) ?_
  refine a_istore cx dJ4_charAt_21 (Nat.le_of_ble_eq_true rfl) rfl ?_
  refine a_iload_n cx dJ4_charAt_23 rfl ?_
  refine a_iload cx dJ4_charAt_24 rfl ?_
  refine c_S cx (j6_checkIndex cx.htr (show i < min s.length cap by omega) (by omega)) (lw_S q1825 q1637 q85 q1638) dn_J6_checkIndex (RN.of rfl rfl rfl rfl) rfl rfl (Nat.le_of_ble_eq_true rfl) dJ4_charAt_26 (Nat.le_of_ble_eq_true rfl) (Nat.le_of_ble_eq_true rfl) (fun v9 h hp9 => ?_) (fun E9 q9 h9 hx9 => hx9.elim)
  obtain ⟨rfl, rfl⟩ := hp9
  refine a_iload_n cx dJ4_charAt_29 rfl ?_
  refine a_if_ne cx (tgt := 42) dJ4_charAt_30 (by decide) (fun c30 => absurd rfl c30) (fun c30 => ?_)
  refine a_aload_n cx dJ4_charAt_33 rfl ?_
  refine a_iload_n cx dJ4_charAt_34 rfl ?_
  refine a_bald cx dJ4_charAt_35 hb rfl (by omega) (by omega) ?_
  refine AW.topi (hf i hi) ?_
  refine a_sipush cx (v := 255) dJ4_charAt_36 (by decide) ?_
  refine a_iand cx dJ4_charAt_39 ?_
  refine AW.topi (sb_255 _ hs.at) ?_
  refine a_i2c cx dJ4_charAt_40 (c_nat _ hs.at).1 ?_
  exact a_zret cx hq dJ4_charAt_41 (c_nat _ hs.at).2 ⟨rfl, rfl⟩ (Nat.le_of_ble_eq_true rfl) (Nat.le_of_ble_eq_true rfl)
abbrev rm_J5_charAt : Room := { frames := 3, cells := 0, slots := 0, locals := 67 }
set_option maxHeartbeats 4000000 in
theorem j5_charAt {lx : Launch} {g : GP} {h : AH} (htr : lx.stackTraces = false) {a b cap i : Nat} {s : List Nat} (hS : SB g h a b cap s) (hs : asc s) (hi : i < s.length) : KT lx g yJ5_charAt (ws_ yJ5_charAt cJ5_charAt 2 (some .char)) rm_J5_charAt 0 0 [.ref a, .int (nI i)] h (isP (.int (nI (s.getD i 0))) h) (noX) := by
  refine KT.of (by decide +kernel) htr (Nat.le_of_ble_eq_true rfl) (L0 := [some (.ref a), some (.int (nI i))]) rfl ?_
  intro M cx hl9 hq hin hnx
  refine a_aload_n cx dJ5_charAt_0 rfl ?_
  refine a_iload_n cx dJ5_charAt_1 rfl ?_
  refine c_SU cx (j4_charAt cx.htr hS hs hi) (lw_SU q1821 q2434 q241 q1822 q83 q1823) ⟨by decide, dn_J4_charAt.2.2⟩ (RN.of rfl rfl rfl rfl) rfl hS.1 rfl rfl rfl (Nat.le_of_ble_eq_true rfl) dJ5_charAt_2 (Nat.le_of_ble_eq_true rfl) (Nat.le_of_ble_eq_true rfl) (fun v9 h hp9 => ?_) (fun E9 q9 h9 hx9 => hx9.elim)
  obtain ⟨rfl, rfl⟩ := hp9
  exact a_zret cx hq dJ5_charAt_5 (c_nat _ hs.at).2 ⟨rfl, rfl⟩ (Nat.le_of_ble_eq_true rfl) (Nat.le_of_ble_eq_true rfl)
abbrev rm_J6_init_2 : Room := { frames := 3, cells := 1, slots := 200, locals := 86 }
set_option maxHeartbeats 4000000 in
theorem j6_init_2 {lx : Launch} {g : GP} {h : AH} (htr : lx.stackTraces = false) {q a b cap : Nat} {s : List Nat} (hq9 : h q = some (eO 15 [.null, .int 0, .int 0, .int 0])) (hBq : gB g ≤ q) (hS : SB g h a b cap s) : KT lx g yJ6_init_2 (ws_ yJ6_init_2 cJ6_init_2 5 none) rm_J6_init_2 1 200 [.ref q, .ref a, .null] h (fun v h' => v = none ∧ StrN g h h' q s ∧ ∀ x e, h x = some e → x ≠ q → h' x = some e) (noX) := by
  refine KT.of (by decide +kernel) htr (Nat.le_of_ble_eq_true rfl) (L0 := [some (.ref q), some (.ref a), some (.null), none, none]) rfl ?_
  intro M cx hl9 hq hin hnx
  obtain ⟨ha, ⟨f, hb, hf, hfit⟩, hsc, h0, hc, hB⟩ := id hS
  refine a_aload_n cx dJ6_init_2_0 rfl ?_
  refine a_objInit cx q955 q124 q125 dJ6_init_2_1 (Nat.le_of_ble_eq_true rfl) (Nat.le_of_ble_eq_true rfl) ?_
  refine a_aload_n cx dJ6_init_2_4 rfl ?_
  refine c_U cx (j4_getValue cx.htr ha) (lw_U q956 q958 q959 q957 q83 q960) dn_J4_getValue (RN.of rfl rfl rfl rfl) rfl ha rfl rfl rfl (Nat.le_of_ble_eq_true rfl) dJ6_init_2_5 (Nat.le_of_ble_eq_true rfl) (Nat.le_of_ble_eq_true rfl) (fun v9 h hp9 => ?_) (fun E9 q9 h9 hx9 => hx9.elim)
  obtain ⟨rfl, rfl⟩ := hp9
  refine a_astore_n cx dJ6_init_2_8 (Nat.le_of_ble_eq_true rfl) rfl ?_
  refine a_aload_n cx dJ6_init_2_9 rfl ?_
  refine c_O cx (j5_length cx.htr ha) (lw_O q961 q963 q962 q964 q965 q84 q966) q968 dn_J4_length (RN.of rfl rfl rfl rfl) rfl ha rfl rfl rfl (Nat.le_of_ble_eq_true rfl) dJ6_init_2_10 (Nat.le_of_ble_eq_true rfl) (Nat.le_of_ble_eq_true rfl) (fun v9 h hp9 => ?_) (fun E9 q9 h9 hx9 => hx9.elim)
  obtain ⟨rfl, rfl⟩ := hp9
  refine a_istore cx dJ6_init_2_13 (Nat.le_of_ble_eq_true rfl) rfl ?_
  refine a_aload_n cx dJ6_init_2_15 rfl ?_
  refine c_U cx (j4_isLatin1 cx.htr ha) (lw_U q969 q846 q847 q845 q83 q848) dn_J4_isLatin1 (RN.of rfl rfl rfl rfl) rfl ha rfl rfl rfl (Nat.le_of_ble_eq_true rfl) dJ6_init_2_16 (Nat.le_of_ble_eq_true rfl) (Nat.le_of_ble_eq_true rfl) (fun v9 h hp9 => ?_) (fun E9 q9 h9 hx9 => hx9.elim)
  obtain ⟨rfl, rfl⟩ := hp9
  refine a_if_eq cx (tgt := 41) dJ6_init_2_19 (by decide) (fun c19 => absurd c19 (by decide)) (fun c19 => ?_)
  refine a_aload_n cx dJ6_init_2_22 rfl ?_
  refine a_iconst cx (v := 0) dJ6_init_2_23 (by decide) ?_
  refine a_putF cx (hin.trans rfl) fl_J6_15 dJ6_init_2_24 hq9 hBq rfl rfl (by exact (Nat.le_of_ble_eq_true rfl)) ?_
  have hne1 : b ≠ q := fun e => by rw [e, hq9] at hb; cases hb
  refine a_aload_n cx dJ6_init_2_27 rfl ?_
  refine a_aload_n cx dJ6_init_2_28 rfl ?_
  refine a_iconst cx (v := 0) dJ6_init_2_29 (by decide) ?_
  refine a_iload cx dJ6_init_2_30 rfl ?_
  refine c_S cx (j17_copyOfRange cx.htr ((hset_n hne1).trans hb) hsc hc (fun i _ => hfit i)) (lw_S q970 q971 q98 q972) dn_J17_copyOfRange (RN.of rfl rfl rfl rfl) rfl rfl (Nat.le_of_ble_eq_true rfl) dJ6_init_2_32 (Nat.le_of_ble_eq_true rfl) (Nat.le_of_ble_eq_true rfl) (fun v9 h hp9 => ?_) (fun E9 q9 h9 hx9 => hx9.elim)
  obtain ⟨r, f', n9, hB9, rfl, hf9, rfl⟩ := hp9
  have hne2 : q ≠ r := fun e => by rw [e, hset_s] at n9 <;> cases n9
  refine a_putF cx (hin.trans rfl) fl_J6_9 dJ6_init_2_35 ((hset_n hne2).trans (hset_s _ _ _)) hBq rfl rfl (by exact (Nat.le_of_ble_eq_true rfl)) ?_
  refine AW.arI cx (f' := sCh s) ((hset_n (Ne.symm hne2)).trans (hset_s _ _ _)) hB9 (fun i hi => ((hf9 i hi).trans (hf i hi)).symm) ?_
  have n9b : h r = none := by rw [hset_n (Ne.symm hne2)] at n9; exact n9
  refine a_goto cx (tgt := 97) dJ6_init_2_38 (by decide) ?_
  exact a_vret cx hq dJ6_init_2_97 ⟨rfl, ⟨r, n9b, (hset_n hne2).trans (hset_s _ _ _), hset_s _ _ _, hBq, hB9⟩, fun x e h1 h2 => by
  have hxr : x ≠ r := fun z => by rw [z, n9b] at h1; cases h1
  rw [hset_n hxr, hset_n h2, hset_n hxr, hset_n h2]; exact h1⟩ (Nat.le_of_ble_eq_true rfl) (Nat.le_of_ble_eq_true rfl)
abbrev rm_J6_init : Room := { frames := 4, cells := 1, slots := 200, locals := 110 }
set_option maxHeartbeats 4000000 in
theorem j6_init {lx : Launch} {g : GP} {h : AH} (htr : lx.stackTraces = false) {q a b cap : Nat} {s : List Nat} (hq9 : h q = some (eO 15 [.null, .int 0, .int 0, .int 0])) (hBq : gB g ≤ q) (hS : SB g h a b cap s) : KT lx g yJ6_init (ws_ yJ6_init cJ6_init 2 none) rm_J6_init 1 200 [.ref q, .ref a] h (fun v h' => v = none ∧ StrN g h h' q s ∧ ∀ x e, h x = some e → x ≠ q → h' x = some e) (noX) := by
  refine KT.of (by decide +kernel) htr (Nat.le_of_ble_eq_true rfl) (L0 := [some (.ref q), some (.ref a)]) rfl ?_
  intro M cx hl9 hq hin hnx
  refine a_aload_n cx dJ6_init_0 rfl ?_
  refine a_aload_n cx dJ6_init_1 rfl ?_
  refine a_null cx dJ6_init_2 ?_
  refine c_I cx (j6_init_2 cx.htr hq9 hBq hS) (lw_meth q954) q85 q952 q953 rfl dn_J6_init_2 (RN.of rfl rfl rfl rfl) rfl rfl (Nat.le_of_ble_eq_true rfl) dJ6_init_3 (Nat.le_of_ble_eq_true rfl) (Nat.le_of_ble_eq_true rfl) (fun v9 h hp9 => ?_) (fun E9 q9 h9 hx9 => hx9.elim)
  obtain ⟨rfl, hF, hx⟩ := hp9
  exact a_vret cx hq dJ6_init_6 ⟨rfl, hF, hx⟩ (Nat.le_of_ble_eq_true rfl) (Nat.le_of_ble_eq_true rfl)
abbrev rm_J5_toString : Room := { frames := 5, cells := 2, slots := 204, locals := 131 }
set_option maxHeartbeats 4000000 in
theorem j5_toString_n {lx : Launch} {g : GP} {h : AH} (htr : lx.stackTraces = false) {a b cap : Nat} {s : List Nat} (hS : SB g h a b cap s) : KT lx g yJ5_toString (ws_ yJ5_toString cJ5_toString 1 (some (.object "java/lang/String"))) rm_J5_toString 2 204 [.ref a] h (fun v h' => ∃ q, v = some (.ref q) ∧ h q = none ∧ StrN g h h' q s ∧ ∀ x e, h x = some e → h' x = some e) (noX) := by
  refine KT.of (by decide +kernel) htr (Nat.le_of_ble_eq_true rfl) (L0 := [some (.ref a)]) rfl ?_
  intro M cx hl9 hq hin hnx
  refine a_new cx nl_J5_18 dJ5_toString_0 (Nat.le_of_ble_eq_true rfl) (Nat.le_of_ble_eq_true rfl) (fun q n0 hB0 => ?_)
  have hS2 : SB g (hset h q (eO 15 [.null, .int 0, .int 0, .int 0])) a b cap s := SB.sub hS (fun x e hx => (hset_n (fun z => by rw [z, n0] at hx; cases hx)).trans hx)
  refine a_dup cx dJ5_toString_3 rfl ?_
  refine a_aload_n cx dJ5_toString_4 rfl ?_
  refine c_I cx (j6_init cx.htr (hset_s _ _ _) hB0 hS2) (lw_meth q951) q85 q949 q950 rfl dn_J6_init (RN.of rfl rfl rfl rfl) rfl rfl (Nat.le_of_ble_eq_true rfl) dJ5_toString_5 (Nat.le_of_ble_eq_true rfl) (Nat.le_of_ble_eq_true rfl) (fun v9 h hp9 => ?_) (fun E9 q9 h9 hx9 => hx9.elim)
  obtain ⟨rfl, hF, hx⟩ := hp9
  exact a_aret cx hq dJ5_toString_8 (Or.inl ⟨_, rfl⟩) ⟨q, rfl, n0, (by obtain ⟨b9, z1, z2⟩ := hF; refine ⟨b9, ?_, z2⟩; by_cases zq : b9 = q; (rw [zq, hset_s] at z1; cases z1); (rw [hset_n zq] at z1; exact z1)), fun x e h1 => hx x e ((hset_n (fun z => by rw [z, n0] at h1; cases h1)).trans h1) (fun z => by rw [z, n0] at h1; cases h1)⟩ (Nat.le_of_ble_eq_true rfl) (Nat.le_of_ble_eq_true rfl)
theorem j5_toString {lx : Launch} {g : GP} {h : AH} (htr : lx.stackTraces = false) {a b cap : Nat} {s : List Nat} (hS : SB g h a b cap s) : KT lx g yJ5_toString (ws_ yJ5_toString cJ5_toString 1 (some (.object "java/lang/String"))) rm_J5_toString 2 204 [.ref a] h (fun v h' => ∃ q, v = some (.ref q) ∧ h q = none ∧ StrF g h' q s ∧ ∀ x e, h x = some e → h' x = some e) noX :=
  (j5_toString_n htr hS).weak (fun v h' ⟨q, e1, e2, e3, e4⟩ => ⟨q, e1, e2, e3.f, e4⟩) (fun _ _ _ z => z)
