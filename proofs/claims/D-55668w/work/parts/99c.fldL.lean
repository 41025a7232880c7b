/-! THE FIELD, told, 2 -/
set_option maxRecDepth 100000
abbrev rm_X2_told : Room := { frames := 16, cells := 160, slots := 20400, locals := 440 }
set_option maxHeartbeats 4000000 in
theorem f2_told {lx : Launch} {g : GP} {h : AH} (htr : lx.stackTraces = false) {hb : AH} {f a ea ca b eb cb d : Nat} {ma mb : Int32} {ls lh : List Nat} {s : SF} (hF : FA g hb h f s a ea ma ca b eb mb cb d ls lh) (hWF : WF s) : KT lx g yX2_told (ws_ yX2_told cX2_told 5 (some (.object "java/lang/String"))) rm_X2_told 160 20400 [.ref f] h (fun v h' => ∃ q, v = some (.ref q) ∧ h q = none ∧ StrN g h h' q (linN s (nS s)) ∧ sub h h') (noX) := by
  refine KT.of (by decide +kernel) htr (Nat.le_of_ble_eq_true rfl) (L0 := [some (.ref f), none, none, none, none]) rfl ?_
  intro M cx hl9 hq hin hnx
  have hR1 : rm_X2_told.cells = 160 := rfl
  have hR2 : rm_X2_told.slots = 20400 := rfl
  obtain ⟨hO, rfl⟩ : ∃ z, z = h := ⟨_, rfl⟩
  refine AW.hk fun hk9 => ?_
  have hS := hWF.1
  have hP := hWF.2.2
  have hn := hS.2.1
  have hm := hS.2.2.2
  have hW := hWF.2.1.1
  refine a_new cx nl_X2_245 dX2_told_0 (by omega) (by omega) (fun sb n0 hB0 => ?_)
  refine a_dup cx dX2_told_3 rfl ?_
  refine c_I cx (j5_init cx.htr (hset_s _ _ _)) (lw_meth q215) q84 q810 q214 rfl dn_J5_init (RN.of rfl rfl rfl rfl) rfl rfl (Nat.le_of_ble_eq_true rfl) dX2_told_4 (by omega) (by omega) (fun v9 h hp9 => ?_) (fun E9 q9 h9 hx9 => hx9.elim)
  obtain ⟨bb0, rfl, nbb, hBbb, rfl⟩ := hp9
  have hS0 := SB.new (hset_s _ _ _) nbb hBbb
  have nb0 : hO bb0 = none := (sub.new n0).none nbb
  have hs0 := ((sub.new n0 (e := eO 14 [.null, .int 0, .int 0, .int 0])).set nb0 (e := eI (g.2.1 1) 16 (fun _ => 0))).set n0 (e := eO 14 [.ref bb0, .int 0, .int 0, .int 0])
  refine a_astore_n cx dX2_told_7 (Nat.le_of_ble_eq_true rfl) rfl ?_
  refine a_aload_n cx dX2_told_8 rfl ?_
  refine a_get cx fl_X2_12.g dX2_told_9 (hF.up hs0).o (by exact rfl) ?_
  refine c_V cx (j2_iterator cx.htr (hF.up hs0).la.1) (lw_V q298 q299 q300 q81 q301) dn_J2_iterator (RN.of rfl rfl rfl rfl) rfl (hF.up hs0).la.1 rfl rfl rfl (Nat.le_of_ble_eq_true rfl) dX2_told_12 (by omega) (by omega) (fun v9 h hp9 => ?_) (fun E9 q9 h9 hx9 => hx9.elim)
  obtain ⟨it, n12, hB12, rfl, rfl⟩ := hp9
  have hs1 := hs0.tr (sub.new n12 (e := itE 0 (-1) ma a))
  have hS1 := hS0.sub (sub.new n12 (e := itE 0 (-1) ma a))
  have hnit : hO it = none := hs0.none n12
  refine a_astore_n cx dX2_told_15 (Nat.le_of_ble_eq_true rfl) rfl ?_
  have loop : ∀ (j0 k : Nat) (last : Int32) (h3 : AH) (b3 c3 : Nat), k ≤ nS s → nS s < k + j0 → sub hO h3 → h3 it = some (itE (nI k) last ma a) → SB g h3 sb b3 c3 (linN s k) → hO b3 = none → AW g M (5 + 8 * k) (60 + 1100 * k) 16 [some (.ref f), some (.ref sb), some (.ref it), none, none] [] h3 := by
    intro j0
    induction j0 with
    | zero => intro k last h3 b3 c3 b1 b2; omega
    | succ j0 ih =>
      intro k last h3 b3 c3 z1 z2 hs hit hS nb3
      have hF3 := hF.up hs
      have hll := linN_len s k
      refine a_aload_n cx dX2_told_16 rfl ?_
      refine c_F cx (j8_hasNext cx.htr hit hF3.la.1 (by have := hF.nl; omega) (by omega)) (lw_F q322 q333 q335 q88 q337) (by decide +kernel) ⟨by decide, by decide, by decide +kernel⟩ (RN.of rfl rfl rfl rfl) rfl hit rfl rfl rfl (Nat.le_of_ble_eq_true rfl) dX2_told_17 (by omega) (by omega) (pK ?_) (fun E9 q9 h9 hx9 => hx9.elim)
      refine a_if_eq cx (tgt := 81) dX2_told_22 (by decide) (fun c22 => ?_) (fun c22 => ?_)
      · have d0 : k = nS s := (bne_eq_false_iff_eq.mp ((bI_0 _).mp c22)).trans hF.nl
        subst d0
        refine a_aload_n cx dX2_told_81 rfl ?_
        refine c_V cx (j5_toString_n cx.htr hS) (lw_V q943 q944 q945 q84 q946) dn_J5_toString (RN.of rfl rfl rfl rfl) rfl hS.1 rfl rfl rfl (Nat.le_of_ble_eq_true rfl) dX2_told_82 (by omega) (by omega) (fun v9 h hp9 => ?_) (fun E9 q9 h9 hx9 => hx9.elim)
        obtain ⟨q9, rfl, nq9, hF9, hx9⟩ := hp9
        exact a_aret cx hq dX2_told_85 (Or.inl ⟨_, rfl⟩) ⟨q9, rfl, hs.none nq9, (by obtain ⟨b9, z1, z2⟩ := hF9; exact ⟨b9, hs.none z1, z2⟩), hs.tr hx9⟩ (by omega) (by omega)
      · have d0 : k < nS s := by have q := bne_iff_ne.mp (bI_n0 c22); have := hF.nl; omega
        refine a_aload_n cx dX2_told_25 rfl ?_
        refine c_F cx (j8_next cx.htr hit hF3.la (by rw [hF.nl]; exact d0)) (lw_F q339 q445 q447 q88 q449) (by decide +kernel) ⟨by decide, by decide, by decide +kernel⟩ (RN.of rfl rfl rfl rfl) rfl hit rfl rfl rfl (Nat.le_of_ble_eq_true rfl) dX2_told_26 (by omega) (by omega) (pK ?_) (fun E9 q9 h9 hx9 => hx9.elim)
        obtain ⟨hS5, nit1, nit2⟩ := hS.off (e := itE (nI (k + 1)) (nI k) ma a) hit nofun nofun
        obtain ⟨h4, eh4⟩ : ∃ z, z = hset h3 it (itE (nI (k + 1)) (nI k) ma a) := ⟨_, rfl⟩
        rw [← eh4]
        rw [← eh4] at hS5
        have hs4 : sub hO h4 := by rw [eh4]; exact hs.set hnit
        have hit5 : h4 it = some (itE (nI (k + 1)) (nI k) ma a) := by rw [eh4]; exact hset_s _ _ _
        have hF4 := hF.up hs4
        have hsh := hF4.sh d0
        refine AW.hk fun hk4 => ?_
        refine a_castS (r := (RX4, TX4, 4)) cx q456 dX2_told_31 hsh rfl ?_
        refine a_astore_n cx dX2_told_34 (Nat.le_of_ble_eq_true rfl) rfl ?_
        refine a_aload_n cx dX2_told_35 rfl ?_
        refine a_aload_n cx dX2_told_36 rfl ?_
        refine a_get cx fl_X2_107.g dX2_told_37 hsh (by exact rfl) ?_
        refine a_iconst cx (v := -1) dX2_told_40 (by decide) ?_
        refine a_icmp_ne cx (tgt := 50) dX2_told_41 (by decide) (fun c41 => ?_) (fun c41 => ?_)
        · obtain ⟨j, hj, ej⟩ := (hW k d0).resolve_left c41
          have e1 : (if s (63 + k) = -1 then 45 else 48 + oN (s (63 + k))) = 48 + j := by rw [if_neg c41, ej, oN_nI (by omega)]
          refine a_new cx nl_X2_245 dX2_told_50 (by omega) (by omega) (fun s2 n50 hB50 => ?_)
          refine a_dup cx dX2_told_53 rfl ?_
          refine c_I cx (j5_init cx.htr (hset_s _ _ _)) (lw_meth q215) q84 q810 q214 rfl dn_J5_init (RN.of rfl rfl rfl rfl) rfl rfl (Nat.le_of_ble_eq_true rfl) dX2_told_54 (by omega) (by omega) (fun v9 h hp9 => ?_) (fun E9 q9 h9 hx9 => hx9.elim)
          obtain ⟨b2a, rfl, nb2, hBb2, rfl⟩ := hp9
          have hU0 := SB.new (hset_s _ _ _) nb2 hBb2
          have nu0 : h4 b2a = none := (sub.new n50).none nb2
          have hu0 := ((sub.new n50 (e := eO 14 [.null, .int 0, .int 0, .int 0])).set nu0 (e := eI (g.2.1 1) 16 (fun _ => 0))).set n50 (e := eO 14 [.ref b2a, .int 0, .int 0, .int 0])
          refine AW.hk fun hk5 => ?_
          refine a_ldcSw cx (cx.hG.str (t := 0) (by decide +kernel)) dX2_told_57 ?_
          refine c_V cx (j5_append (tx := []) cx.htr hU0 (hk5.2.str (t := 0) (by omega)) (by show 0 + 0 ≤ 64; omega)) (lw_V q813 q814 q815 q84 q816) dn_J5_append (RN.of rfl rfl rfl rfl) rfl hU0.1 rfl rfl rfl (Nat.le_of_ble_eq_true rfl) dX2_told_60 (by omega) (by omega) (fun v9 h hp9 => ?_) (fun E9 q9 h9 hx9 => hx9.elim)
          obtain ⟨rfl, hA1⟩ := hp9
          obtain ⟨b2b, c2b, hU1, hu1, nu1, -⟩ := hA1.fresh hu0 n50 nu0
          refine a_aload_n cx dX2_told_63 rfl ?_
          refine a_get cx fl_X2_107.g dX2_told_64 (hu1 _ _ hsh) (by exact rfl) ?_
          refine AW.topi ej ?_
          refine c_V cx (j5_append_2 (v := j) cx.htr hU1 (by omega) (by have := dgN_le j; show 0 + _ ≤ 64; omega)) (lw_V q918 q919 q920 q84 q921) dn_J5_append_2 (RN.of rfl rfl rfl rfl) rfl hU1.1 rfl rfl rfl (Nat.le_of_ble_eq_true rfl) dX2_told_67 (by omega) (by omega) (fun v9 h hp9 => ?_) (fun E9 q9 h9 hx9 => hx9.elim)
          obtain ⟨rfl, hA2⟩ := hp9
          obtain ⟨b2c, c2c, hU2, hu2, nu2, -⟩ := hA2.fresh hu1 n50 nu1
          have e2 : [] ++ [] ++ dgN j = [48 + j] := by unfold dgN; rw [if_neg (by omega), Nat.mod_eq_of_lt (show j < 10 by omega)]; rfl
          rw [e2] at hU2
          refine c_V cx (j5_toString cx.htr hU2) (lw_V q943 q944 q945 q84 q946) dn_J5_toString (RN.of rfl rfl rfl rfl) rfl hU2.1 rfl rfl rfl (Nat.le_of_ble_eq_true rfl) dX2_told_70 (by omega) (by omega) (fun v9 h hp9 => ?_) (fun E9 q9 h9 hx9 => hx9.elim)
          obtain ⟨q7, rfl, nq7, hQ7, hx7⟩ := hp9
          have hu3 := hu2.tr hx7
          have hS7 := hS5.sub hu3
          replace hit5 := hu3 _ _ hit5
          refine c_V cx (j5_append (tx := [48 + j]) cx.htr hS7 hQ7.str (by rw [hll]; show _ + 1 ≤ 64; omega)) (lw_V q813 q814 q815 q84 q816) dn_J5_append (RN.of rfl rfl rfl rfl) rfl hS7.1 rfl rfl rfl (Nat.le_of_ble_eq_true rfl) dX2_told_73 (by omega) (by omega) (fun v9 h hp9 => ?_) (fun E9 q9 h9 hx9 => hx9.elim)
          obtain ⟨rfl, hA⟩ := hp9
          obtain ⟨bb9, cp9, hS9, hs9, nb9, hfr9⟩ := (hA.fresh (hs4.tr hu3) n0 nb3)
          have hgo := ih (k + 1) (nI k) _ bb9 cp9 (by omega) (by omega) hs9 (hfr9 _ _ hit5 nit1 nit2) (by rw [linN, e1]; exact hS9) nb9
          refine a_astore cx dX2_told_76 (Nat.le_of_ble_eq_true rfl) rfl ?_
          refine a_goto cx (tgt := 16) dX2_told_78 (by decide) ?_
          refine AW.widen ?_ ?_ (AW.loc ?_ hgo)
          · omega
          · omega
          · exact ⟨rfl, rfl, rfl, trivial⟩
        · have e1 : (if s (63 + k) = -1 then 45 else 48 + oN (s (63 + k))) = 45 := if_pos c41
          refine a_ldcSw cx (cx.hG.str (t := 1) (by decide +kernel)) dX2_told_44 ?_
          refine a_goto cx (tgt := 73) dX2_told_47 (by decide) ?_
          refine c_V cx (j5_append (tx := [45]) cx.htr hS5 (hk4.2.str (t := 1) (by omega)) (by rw [hll]; show _ + 1 ≤ 64; omega)) (lw_V q813 q814 q815 q84 q816) dn_J5_append (RN.of rfl rfl rfl rfl) rfl hS5.1 rfl rfl rfl (Nat.le_of_ble_eq_true rfl) dX2_told_73 (by omega) (by omega) (fun v9 h hp9 => ?_) (fun E9 q9 h9 hx9 => hx9.elim)
          obtain ⟨rfl, hA⟩ := hp9
          obtain ⟨bb9, cp9, hS9, hs9, nb9, hfr9⟩ := hA.fresh hs4 n0 nb3
          have hgo := ih (k + 1) (nI k) _ bb9 cp9 (by omega) (by omega) hs9 (hfr9 _ _ hit5 nit1 nit2) (by rw [linN, e1]; exact hS9) nb9
          refine a_astore cx dX2_told_76 (Nat.le_of_ble_eq_true rfl) rfl ?_
          refine a_goto cx (tgt := 16) dX2_told_78 (by decide) ?_
          refine AW.widen ?_ ?_ (AW.loc ?_ hgo)
          · omega
          · omega
          · exact ⟨rfl, rfl, rfl, trivial⟩
  exact AW.widen (by omega) (by omega) (loop (nS s + 1) 0 (-1) _ _ _ (Nat.zero_le _) (by omega) hs1 (hset_s _ _ _) hS1 nb0)
