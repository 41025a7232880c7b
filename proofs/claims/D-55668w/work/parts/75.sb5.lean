/-! STRINGBUILDERS, room 3; letters and strings added -/
set_option maxRecDepth 100000
abbrev rm_J4_ensureCapacityInternal : Room := { frames := 3, cells := 1, slots := 200, locals := 78 }
set_option maxHeartbeats 4000000 in
theorem j4_ensureCapacityInternal {lx : Launch} {g : GP} {h : AH} (htr : lx.stackTraces = false) {a b cap n : Nat} {s : List Nat} (hS : SB g h a b cap s) (hn : n ≤ 64) : KT lx g yJ4_ensureCapacityInternal (ws_ yJ4_ensureCapacityInternal cJ4_ensureCapacityInternal 3 none) rm_J4_ensureCapacityInternal 1 200 [.ref a, .int (nI n)] h (fun v h' => v = none ∧ ∃ b' cap', SB g h' a b' cap' s ∧ n ≤ cap' ∧ (b' = b ∨ h b' = none) ∧ ∀ q e, h q = some e → q ≠ a → h' q = some e) (noX) := by
  refine KT.of (by decide +kernel) htr (Nat.le_of_ble_eq_true rfl) (L0 := [some (.ref a), some (.int (nI n)), none]) rfl ?_
  intro M cx hl9 hq hin hnx
  obtain ⟨ha, ⟨f, hb, hf, hfit⟩, hsc, h0, hc, hB⟩ := id hS
  refine a_aload_n cx dJ4_ensureCapacityInternal_0 rfl ?_
  refine a_get cx fl_J4_15.g dJ4_ensureCapacityInternal_1 (by assumption) (by exact rfl) ?_
  refine a_alen1 cx dJ4_ensureCapacityInternal_4 hb ?_
  refine a_aload_n cx dJ4_ensureCapacityInternal_5 rfl ?_
  refine a_get cx fl_J4_22.g dJ4_ensureCapacityInternal_6 (by assumption) (by exact rfl) ?_
  refine a_ishr cx dJ4_ensureCapacityInternal_9 ?_
  refine AW.topi (shr0 _) ?_
  refine a_istore_n cx dJ4_ensureCapacityInternal_10 (Nat.le_of_ble_eq_true rfl) rfl ?_
  refine a_iload_n cx dJ4_ensureCapacityInternal_11 rfl ?_
  refine a_iload_n cx dJ4_ensureCapacityInternal_12 rfl ?_
  refine a_isub cx dJ4_ensureCapacityInternal_13 ?_
  refine a_if_le cx (tgt := 38) dJ4_ensureCapacityInternal_14 (by decide) (fun c14 => ?_) (fun c14 => ?_)
  · have d14 : n ≤ cap := by
      by_cases q : n ≤ cap
      · exact q
      · exfalso
        rw [pk_sub (by omega)] at c14
        have := le_nI (b := 0) c14 (by omega) (by omega)
        omega
    exact a_vret cx hq dJ4_ensureCapacityInternal_38 ⟨rfl, b, cap, hS, d14, Or.inl rfl, fun q e hq _ => hq⟩ (Nat.le_of_ble_eq_true rfl) (Nat.le_of_ble_eq_true rfl)
  · have d14 : cap < n := by
      by_cases q : cap < n
      · exact q
      · exfalso
        apply c14
        have q1 := pk_sub_toInt (a := n) (b := cap) (by omega) (by omega)
        rw [Int32.le_iff_toInt_le, q1]
        show (n : Int) - cap ≤ 0
        omega
    refine a_aload_n cx dJ4_ensureCapacityInternal_17 rfl ?_
    refine a_aload_n cx dJ4_ensureCapacityInternal_18 rfl ?_
    refine a_get cx fl_J4_15.g dJ4_ensureCapacityInternal_19 (by assumption) (by exact rfl) ?_
    refine a_aload_n cx dJ4_ensureCapacityInternal_22 rfl ?_
    refine a_iload_n cx dJ4_ensureCapacityInternal_23 rfl ?_
    refine c_P cx (j4_newCapacity cx.htr ha hb h0 d14 (by omega)) (lw_meth q831) q828 q829 q830 q2427 q83 dn_J4_newCapacity (RN.of rfl rfl rfl rfl) rfl ha rfl rfl (Nat.le_of_ble_eq_true rfl) dJ4_ensureCapacityInternal_24 (Nat.le_of_ble_eq_true rfl) (Nat.le_of_ble_eq_true rfl) (fun v9 h hp9 => ?_) (fun E9 q9 h9 hx9 => hx9.elim)
    obtain ⟨rfl, rfl⟩ := hp9
    refine a_aload_n cx dJ4_ensureCapacityInternal_27 rfl ?_
    refine a_get cx fl_J4_22.g dJ4_ensureCapacityInternal_28 (by assumption) (by exact rfl) ?_
    refine a_ishl cx dJ4_ensureCapacityInternal_31 ?_
    refine AW.topi (shl0 _) ?_
    refine c_S cx (j17_copyOf_3 cx.htr hb (by omega) (by omega) hfit) (lw_S q834 q835 q98 q836) dn_J17_copyOf_3 (RN.of rfl rfl rfl rfl) rfl rfl (Nat.le_of_ble_eq_true rfl) dJ4_ensureCapacityInternal_32 (Nat.le_of_ble_eq_true rfl) (Nat.le_of_ble_eq_true rfl) (fun v9 h hp9 => ?_) (fun E9 q9 h9 hx9 => hx9.elim)
    obtain ⟨q, f', n9, hB9, rfl, hf9, hfit9, rfl⟩ := hp9
    have hne : a ≠ q := fun e => by rw [e, n9] at ha; cases ha
    refine a_put cx fl_J4_15 dJ4_ensureCapacityInternal_35 ((hset_n hne).trans ha) rfl rfl (by exact (Nat.le_of_ble_eq_true rfl)) ?_
    exact a_vret cx hq dJ4_ensureCapacityInternal_38 ⟨rfl, q, _, ⟨hset_s _ _ _, ⟨f', (hset_n (Ne.symm hne)).trans (hset_s _ _ _), fun i hi => (hf9 i (by omega)).trans (hf i hi), hfit9⟩, by omega, by omega, by omega, hB9⟩, by omega, Or.inr n9, fun q9 e hq hqa => (hset_n hqa).trans ((hset_n (fun z => by rw [z, n9] at hq; cases hq)).trans hq)⟩ (Nat.le_of_ble_eq_true rfl) (Nat.le_of_ble_eq_true rfl)
abbrev rm_J4_append_3 : Room := { frames := 4, cells := 1, slots := 200, locals := 100 }
set_option maxHeartbeats 4000000 in
theorem j4_append_3 {lx : Launch} {g : GP} {h : AH} (htr : lx.stackTraces = false) {a b cap c : Nat} {s : List Nat} (hS : SB g h a b cap s) (hc9 : c < 128) (hn : s.length < 64) : KT lx g yJ4_append_3 (ws_ yJ4_append_3 cJ4_append_3 2 (some (.object "java/lang/AbstractStringBuilder"))) rm_J4_append_3 1 200 [.ref a, .int (nI c)] h (fun v h' => v = some (.ref a) ∧ APP g h a b (s ++ [c]) h') (noX) := by
  refine KT.of (by decide +kernel) htr (Nat.le_of_ble_eq_true rfl) (L0 := [some (.ref a), some (.int (nI c))]) rfl ?_
  intro M cx hl9 hq hin hnx
  obtain ⟨ha, ⟨f, hb, hf, hfit⟩, hsc, h0, hc, hB⟩ := id hS
  refine a_aload_n cx dJ4_append_3_0 rfl ?_
  refine a_aload_n cx dJ4_append_3_1 rfl ?_
  refine a_get cx fl_J4_79.g dJ4_append_3_2 (by assumption) (by exact rfl) ?_
  refine a_iconst cx (v := 1) dJ4_append_3_5 (by decide) ?_
  refine a_iadd cx dJ4_append_3_6 ?_
  refine AW.topi (nI_1 _) ?_
  refine c_P cx (j4_ensureCapacityInternal cx.htr hS (by omega)) (lw_meth q827) q824 q825 q826 q2426 q83 dn_J4_ensureCapacityInternal (RN.of rfl rfl rfl rfl) rfl ha rfl rfl (Nat.le_of_ble_eq_true rfl) dJ4_append_3_7 (Nat.le_of_ble_eq_true rfl) (Nat.le_of_ble_eq_true rfl) (fun v9 h hp9 => ?_) (fun E9 q9 h9 hx9 => hx9.elim)
  obtain ⟨rfl, b2, cap2, hS2, hn2, hb2, hf2⟩ := hp9
  obtain ⟨ha2, ⟨f2, hbb2, hff2, hfit2⟩, hsc2, h02, hc2, hB2⟩ := id hS2
  have hne2 := hS2.ne
  refine a_aload_n cx dJ4_append_3_10 rfl ?_
  refine c_U cx (j4_isLatin1 cx.htr ha2) (lw_U q844 q846 q847 q845 q83 q848) dn_J4_isLatin1 (RN.of rfl rfl rfl rfl) rfl ha2 rfl rfl rfl (Nat.le_of_ble_eq_true rfl) dJ4_append_3_11 (Nat.le_of_ble_eq_true rfl) (Nat.le_of_ble_eq_true rfl) (fun v9 h hp9 => ?_) (fun E9 q9 h9 hx9 => hx9.elim)
  obtain ⟨rfl, rfl⟩ := hp9
  refine a_if_eq cx (tgt := 45) dJ4_append_3_14 (by decide) (fun c14 => absurd c14 (by decide)) (fun c14 => ?_)
  refine a_iload_n cx dJ4_append_3_17 rfl ?_
  refine c_Sp cx (j18_canEncode cx.htr hc9) (lw_S q1627 q1628 q102 q1629) dn_J18_canEncode (RN.of rfl rfl rfl rfl) rfl rfl (Nat.le_of_ble_eq_true rfl) dJ4_append_3_18 (Nat.le_of_ble_eq_true rfl) (Nat.le_of_ble_eq_true rfl) ?_
  refine a_if_eq cx (tgt := 45) dJ4_append_3_21 (by decide) (fun c21 => absurd c21 (by decide)) (fun c21 => ?_)
  refine a_aload_n cx dJ4_append_3_24 rfl ?_
  refine a_get cx fl_J4_15.g dJ4_append_3_25 ha2 (by exact rfl) ?_
  refine a_aload_n cx dJ4_append_3_28 rfl ?_
  refine a_dup cx dJ4_append_3_29 rfl ?_
  refine a_get cx fl_J4_79.g dJ4_append_3_30 ha2 (by exact rfl) ?_
  refine a_dup_x1 cx dJ4_append_3_33 rfl rfl ?_
  refine a_iconst cx (v := 1) dJ4_append_3_34 (by decide) ?_
  refine a_iadd cx dJ4_append_3_35 ?_
  refine AW.topi (nI_1 _) ?_
  refine a_put cx fl_J4_79 dJ4_append_3_36 ha2 rfl rfl (by exact (Nat.le_of_ble_eq_true rfl)) ?_
  refine a_iload_n cx dJ4_append_3_39 rfl ?_
  refine a_i2b cx dJ4_append_3_40 (show _ = sb_b c from rfl) ?_
  refine a_bast cx dJ4_append_3_41 ((hset_n hne2).trans hbb2) hB2 rfl (by omega) (by omega) (sb_nar c hc9).symm ?_
  refine a_goto cx (tgt := 75) dJ4_append_3_42 (by decide) ?_
  refine a_aload_n cx dJ4_append_3_75 rfl ?_
  exact a_aret cx hq dJ4_append_3_76 (Or.inl ⟨_, rfl⟩) ⟨rfl, APP.put hne2 hff2 hfit2 hn2 hc2 hB2 hb2 hf2⟩ (Nat.le_of_ble_eq_true rfl) (Nat.le_of_ble_eq_true rfl)
abbrev rm_J5_append_3 : Room := { frames := 5, cells := 1, slots := 200, locals := 121 }
set_option maxHeartbeats 4000000 in
theorem j5_append_3 {lx : Launch} {g : GP} {h : AH} (htr : lx.stackTraces = false) {a b cap c : Nat} {s : List Nat} (hS : SB g h a b cap s) (hc9 : c < 128) (hn : s.length < 64) : KT lx g yJ5_append_3 (ws_ yJ5_append_3 cJ5_append_3 2 (some (.object "java/lang/StringBuilder"))) rm_J5_append_3 1 200 [.ref a, .int (nI c)] h (fun v h' => v = some (.ref a) ∧ APP g h a b (s ++ [c]) h') (noX) := by
  refine KT.of (by decide +kernel) htr (Nat.le_of_ble_eq_true rfl) (L0 := [some (.ref a), some (.int (nI c))]) rfl ?_
  intro M cx hl9 hq hin hnx
  refine a_aload_n cx dJ5_append_3_0 rfl ?_
  refine a_iload_n cx dJ5_append_3_1 rfl ?_
  refine c_SU cx (j4_append_3 cx.htr hS hc9 hn) (lw_SU q1624 q2432 q241 q1625 q83 q1626) ⟨by decide, dn_J4_append_3.2.2⟩ (RN.of rfl rfl rfl rfl) rfl hS.1 rfl rfl rfl (Nat.le_of_ble_eq_true rfl) dJ5_append_3_2 (Nat.le_of_ble_eq_true rfl) (Nat.le_of_ble_eq_true rfl) (fun v9 h hp9 => ?_) (fun E9 q9 h9 hx9 => hx9.elim)
  obtain ⟨rfl, hA⟩ := hp9
  refine a_pop cx dJ5_append_3_5 rfl ?_
  refine a_aload_n cx dJ5_append_3_6 rfl ?_
  exact a_aret cx hq dJ5_append_3_7 (Or.inl ⟨_, rfl⟩) ⟨rfl, hA⟩ (Nat.le_of_ble_eq_true rfl) (Nat.le_of_ble_eq_true rfl)
abbrev rm_J6_getBytes : Room := { frames := 1, cells := 0, slots := 0, locals := 40 }
set_option maxHeartbeats 4000000 in
theorem j6_getBytes {lx : Launch} {g : GP} {h : AH} (htr : lx.stackTraces = false) {t tb : Nat} {hs hz : Int32} {tx : List Nat} (ht : h t = some (eO 15 [.ref tb, .int 0, .int hs, .int hz])) (htb : h tb = some (eI (g.2.1 1) tx.length (sCh tx))) {b cap p : Nat} {f : Nat → Int32} (hb : h b = some (eI (g.2.1 1) cap f)) (hB : gB g ≤ b) (hp : p + tx.length ≤ cap) (hc : cap < 200) : KT lx g yJ6_getBytes (ws_ yJ6_getBytes cJ6_getBytes 4 none) rm_J6_getBytes 0 0 [.ref t, .ref b, .int (nI p), .int 0] h (fun v h' => v = none ∧ h' = hset h b (eI (g.2.1 1) cap (va_cpy (sCh tx) f 0 p tx.length))) (noX) := by
  refine KT.of (by decide +kernel) htr (Nat.le_of_ble_eq_true rfl) (L0 := [some (.ref t), some (.ref b), some (.int (nI p)), some (.int 0)]) rfl ?_
  intro M cx hl9 hq hin hnx
  refine a_aload_n cx dJ6_getBytes_0 rfl ?_
  refine c_Vp cx (j6_coder cx.htr ht) (lw_V q879 q880 q881 q85 q882) dn_J6_coder (RN.of rfl rfl rfl rfl) rfl (by assumption) rfl rfl rfl (Nat.le_of_ble_eq_true rfl) dJ6_getBytes_1 (Nat.le_of_ble_eq_true rfl) (Nat.le_of_ble_eq_true rfl) ?_
  refine a_iload_n cx dJ6_getBytes_4 rfl ?_
  refine a_icmp_ne cx (tgt := 28) dJ6_getBytes_5 (by decide) (fun c5 => absurd rfl c5) (fun c5 => ?_)
  refine a_aload_n cx dJ6_getBytes_8 rfl ?_
  refine a_get cx fl_J6_9.g dJ6_getBytes_9 ht (by exact rfl) ?_
  refine a_iconst cx (v := 0) dJ6_getBytes_12 (by decide) ?_
  refine a_aload_n cx dJ6_getBytes_13 rfl ?_
  refine a_iload_n cx dJ6_getBytes_14 rfl ?_
  refine a_iload_n cx dJ6_getBytes_15 rfl ?_
  refine a_ishl cx dJ6_getBytes_16 ?_
  refine AW.topi (shl0 _) ?_
  refine a_aload_n cx dJ6_getBytes_17 rfl ?_
  refine a_get cx fl_J6_9.g dJ6_getBytes_18 ht (by exact rfl) ?_
  refine a_alen1 cx dJ6_getBytes_21 htb ?_
  refine a_copyI cx 1 rfl rfl q916 q560 q559 q99 htb hb hB (show (0 : Int32) = nI 0 from rfl) rfl rfl (by omega) (by omega) (by omega) (by omega) (fun i hi => sCh_fit tx _) dJ6_getBytes_22 (Nat.le_of_ble_eq_true rfl) (Nat.le_of_ble_eq_true rfl) ?_
  refine a_goto cx (tgt := 43) dJ6_getBytes_25 (by decide) ?_
  exact a_vret cx hq dJ6_getBytes_43 ⟨rfl, rfl⟩ (Nat.le_of_ble_eq_true rfl) (Nat.le_of_ble_eq_true rfl)
abbrev rm_J4_putStringAt : Room := { frames := 2, cells := 0, slots := 0, locals := 63 }
set_option maxHeartbeats 4000000 in
theorem j4_putStringAt {lx : Launch} {g : GP} {h : AH} (htr : lx.stackTraces = false) {a b cap p : Nat} {m n : Int32} {f : Nat → Int32} {t tb : Nat} {hs hz : Int32} {tx : List Nat} (ht : h t = some (eO 15 [.ref tb, .int 0, .int hs, .int hz])) (htb : h tb = some (eI (g.2.1 1) tx.length (sCh tx))) (ha : h a = some (eO 14 [.ref b, .int 0, .int m, .int n])) (hb : h b = some (eI (g.2.1 1) cap f)) (hB : gB g ≤ b) (hp : p + tx.length ≤ cap) (hc : cap < 200) : KT lx g yJ4_putStringAt (ws_ yJ4_putStringAt cJ4_putStringAt 3 none) rm_J4_putStringAt 0 0 [.ref a, .int (nI p), .ref t] h (fun v h' => v = none ∧ h' = hset h b (eI (g.2.1 1) cap (va_cpy (sCh tx) f 0 p tx.length))) (noX) := by
  refine KT.of (by decide +kernel) htr (Nat.le_of_ble_eq_true rfl) (L0 := [some (.ref a), some (.int (nI p)), some (.ref t)]) rfl ?_
  intro M cx hl9 hq hin hnx
  refine a_aload_n cx dJ4_putStringAt_0 rfl ?_
  refine a_aload_n cx dJ4_putStringAt_1 rfl ?_
  refine c_P cx (j4_inflateIfNeededFor cx.htr ha ht) (lw_meth q891) q888 q889 q890 q2429 q83 dn_J4_inflateIfNeededFor (RN.of rfl rfl rfl rfl) rfl ha rfl rfl (Nat.le_of_ble_eq_true rfl) dJ4_putStringAt_2 (Nat.le_of_ble_eq_true rfl) (Nat.le_of_ble_eq_true rfl) (fun v9 h hp9 => ?_) (fun E9 q9 h9 hx9 => hx9.elim)
  obtain ⟨rfl, rfl⟩ := hp9
  refine a_aload_n cx dJ4_putStringAt_5 rfl ?_
  refine a_aload_n cx dJ4_putStringAt_6 rfl ?_
  refine a_get cx fl_J4_15.g dJ4_putStringAt_7 (by assumption) (by exact rfl) ?_
  refine a_iload_n cx dJ4_putStringAt_10 rfl ?_
  refine a_aload_n cx dJ4_putStringAt_11 rfl ?_
  refine a_get cx fl_J4_22.g dJ4_putStringAt_12 (by assumption) (by exact rfl) ?_
  refine c_V cx (j6_getBytes cx.htr ht htb hb hB hp hc) (lw_V q912 q913 q914 q85 q915) dn_J6_getBytes (RN.of rfl rfl rfl rfl) rfl (by assumption) rfl rfl rfl (Nat.le_of_ble_eq_true rfl) dJ4_putStringAt_15 (Nat.le_of_ble_eq_true rfl) (Nat.le_of_ble_eq_true rfl) (fun v9 h hp9 => ?_) (fun E9 q9 h9 hx9 => hx9.elim)
  obtain ⟨rfl, rfl⟩ := hp9
  exact a_vret cx hq dJ4_putStringAt_18 ⟨rfl, rfl⟩ (Nat.le_of_ble_eq_true rfl) (Nat.le_of_ble_eq_true rfl)
abbrev rm_J4_append : Room := { frames := 4, cells := 1, slots := 200, locals := 100 }
set_option maxHeartbeats 4000000 in
theorem j4_append {lx : Launch} {g : GP} {h : AH} (htr : lx.stackTraces = false) {a b cap : Nat} {s : List Nat} (hS : SB g h a b cap s) {t : Nat} {tx : List Nat} (hT : StrAt g h t tx) (hn : s.length + tx.length ≤ 64) : KT lx g yJ4_append (ws_ yJ4_append cJ4_append 3 (some (.object "java/lang/AbstractStringBuilder"))) rm_J4_append 1 200 [.ref a, .ref t] h (fun v h' => v = some (.ref a) ∧ APP g h a b (s ++ tx) h') (noX) := by
  refine KT.of (by decide +kernel) htr (Nat.le_of_ble_eq_true rfl) (L0 := [some (.ref a), some (.ref t), none]) rfl ?_
  intro M cx hl9 hq hin hnx
  obtain ⟨ha, ⟨f, hb, hf, hfit⟩, hsc, h0, hc, hB⟩ := id hS
  obtain ⟨tb, hs, hz, ht, htb, hh⟩ := id hT
  refine a_aload_n cx dJ4_append_0 rfl ?_
  refine a_ifnonnull cx (tgt := 9) dJ4_append_1 (by decide) ?_
  refine a_aload_n cx dJ4_append_9 rfl ?_
  refine c_Vp cx (j6_length cx.htr hT) (lw_V q875 q876 q877 q85 q878) dn_J6_length (RN.of rfl rfl rfl rfl) rfl (by assumption) rfl rfl rfl (Nat.le_of_ble_eq_true rfl) dJ4_append_10 (Nat.le_of_ble_eq_true rfl) (Nat.le_of_ble_eq_true rfl) ?_
  refine a_istore_n cx dJ4_append_13 (Nat.le_of_ble_eq_true rfl) rfl ?_
  refine a_aload_n cx dJ4_append_14 rfl ?_
  refine a_aload_n cx dJ4_append_15 rfl ?_
  refine a_get cx fl_J4_79.g dJ4_append_16 (by assumption) (by exact rfl) ?_
  refine a_iload_n cx dJ4_append_19 rfl ?_
  refine a_iadd cx dJ4_append_20 ?_
  refine AW.topi (nI_add _ _) ?_
  refine c_P cx (j4_ensureCapacityInternal cx.htr hS (by omega)) (lw_meth q827) q824 q825 q826 q2426 q83 dn_J4_ensureCapacityInternal (RN.of rfl rfl rfl rfl) rfl ha rfl rfl (Nat.le_of_ble_eq_true rfl) dJ4_append_21 (Nat.le_of_ble_eq_true rfl) (Nat.le_of_ble_eq_true rfl) (fun v9 h hp9 => ?_) (fun E9 q9 h9 hx9 => hx9.elim)
  obtain ⟨rfl, b2, cap2, hS2, hn2, hb2, hf2⟩ := hp9
  obtain ⟨ha2, ⟨f2, hbb2, hff2, hfit2⟩, hsc2, h02, hc2, hB2⟩ := id hS2
  have hne2 := hS2.ne
  have ht2 := hf2 t _ ht (fun e => by rw [e, ha] at ht; cases ht)
  have htb2 := hf2 tb _ htb (fun e => by rw [e, ha] at htb; cases htb)
  refine a_aload_n cx dJ4_append_24 rfl ?_
  refine a_aload_n cx dJ4_append_25 rfl ?_
  refine a_get cx fl_J4_79.g dJ4_append_26 ha2 (by exact rfl) ?_
  refine a_aload_n cx dJ4_append_29 rfl ?_
  refine c_P cx (j4_putStringAt cx.htr ht2 htb2 ha2 hbb2 hB2 (by omega) (by omega)) (lw_meth q887) q884 q885 q886 q2428 q83 dn_J4_putStringAt (RN.of rfl rfl rfl rfl) rfl ha2 rfl rfl (Nat.le_of_ble_eq_true rfl) dJ4_append_30 (Nat.le_of_ble_eq_true rfl) (Nat.le_of_ble_eq_true rfl) (fun v9 h hp9 => ?_) (fun E9 q9 h9 hx9 => hx9.elim)
  obtain ⟨rfl, rfl⟩ := hp9
  refine a_aload_n cx dJ4_append_33 rfl ?_
  refine a_dup cx dJ4_append_34 rfl ?_
  refine a_get cx fl_J4_79.g dJ4_append_35 ((hset_n (Ne.symm hne2)).trans ha2) (by exact rfl) ?_
  refine a_iload_n cx dJ4_append_38 rfl ?_
  refine a_iadd cx dJ4_append_39 ?_
  refine AW.topi (nI_add _ _) ?_
  refine a_put cx fl_J4_79 dJ4_append_40 ((hset_n (Ne.symm hne2)).trans ha2) rfl rfl (by exact (Nat.le_of_ble_eq_true rfl)) ?_
  refine a_aload_n cx dJ4_append_43 rfl ?_
  exact a_aret cx hq dJ4_append_44 (Or.inl ⟨_, rfl⟩) ⟨rfl, APP.cat hne2 hff2 hfit2 hn2 h02 hc2 hB2 hb2 hf2⟩ (Nat.le_of_ble_eq_true rfl) (Nat.le_of_ble_eq_true rfl)
abbrev rm_J5_append : Room := { frames := 5, cells := 1, slots := 200, locals := 122 }
set_option maxHeartbeats 4000000 in
theorem j5_append {lx : Launch} {g : GP} {h : AH} (htr : lx.stackTraces = false) {a b cap : Nat} {s : List Nat} (hS : SB g h a b cap s) {t : Nat} {tx : List Nat} (hT : StrAt g h t tx) (hn : s.length + tx.length ≤ 64) : KT lx g yJ5_append (ws_ yJ5_append cJ5_append 2 (some (.object "java/lang/StringBuilder"))) rm_J5_append 1 200 [.ref a, .ref t] h (fun v h' => v = some (.ref a) ∧ APP g h a b (s ++ tx) h') (noX) := by
  refine KT.of (by decide +kernel) htr (Nat.le_of_ble_eq_true rfl) (L0 := [some (.ref a), some (.ref t)]) rfl ?_
  intro M cx hl9 hq hin hnx
  refine a_aload_n cx dJ5_append_0 rfl ?_
  refine a_aload_n cx dJ5_append_1 rfl ?_
  refine c_SU cx (j4_append cx.htr hS hT hn) (lw_SU q817 q2424 q241 q818 q83 q819) ⟨by decide, dn_J4_append.2.2⟩ (RN.of rfl rfl rfl rfl) rfl hS.1 rfl rfl rfl (Nat.le_of_ble_eq_true rfl) dJ5_append_2 (Nat.le_of_ble_eq_true rfl) (Nat.le_of_ble_eq_true rfl) (fun v9 h hp9 => ?_) (fun E9 q9 h9 hx9 => hx9.elim)
  obtain ⟨rfl, hA⟩ := hp9
  refine a_pop cx dJ5_append_5 rfl ?_
  refine a_aload_n cx dJ5_append_6 rfl ?_
  exact a_aret cx hq dJ5_append_7 (Or.inl ⟨_, rfl⟩) ⟨rfl, hA⟩ (Nat.le_of_ble_eq_true rfl) (Nat.le_of_ble_eq_true rfl)
