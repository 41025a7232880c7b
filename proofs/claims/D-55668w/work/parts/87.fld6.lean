/-! THE FIELD: strays, farthest, ranks -/
set_option maxRecDepth 100000
theorem isOb_sh {h : AH} {x : Nat} {fs : List Value} (hx : h x = some (eO 3 fs)) : isOb h x := ⟨3, fs, (RX4, TX4, 4), hx, rfl, q2445⟩
theorem isOb_hu {h : AH} {x : Nat} {fs : List Value} (hx : h x = some (eO 4 fs)) : isOb h x := ⟨4, fs, (RX5, TX5, 2), hx, rfl, q2446⟩
abbrev rm_X2_strays : Room := { frames := 16, cells := 20, slots := 1807, locals := 400 }
set_option maxHeartbeats 4000000 in
theorem f2_strays {lx : Launch} {g : GP} {h : AH} (htr : lx.stackTraces = false) {hb : AH} {f a ea ca b eb cb d : Nat} {ma mb : Int32} {ls lh : List Nat} {s : SF} (hF : FA g hb h f s a ea ma ca b eb mb cb d ls lh) (hn : nS s ≤ 18) (hm : nH s ≤ 6) (hW : ∀ k, k < nS s → isO (s (63 + k)) (nH s)) : KT lx g yX2_strays (ws_ yX2_strays cX2_strays 5 (some (.object "java/util/ArrayList"))) rm_X2_strays 20 1807 [.ref f] h (fun v h' => ∃ q ed mq cap, v = some (.ref q) ∧ h q = none ∧ sub h h' ∧ AL g h' q ed mq cap (srl s ls (nS s))) (noX) := by
  refine KT.of (by decide +kernel) htr (Nat.le_of_ble_eq_true rfl) (L0 := [some (.ref f), none, none, none, none]) rfl ?_
  intro M cx hl9 hq hin hnx
  have hR1 : rm_X2_strays.cells = 20 := rfl
  have hR2 : rm_X2_strays.slots = 1807 := rfl
  refine AW.hk fun hk9 => ?_
  refine a_new cx nl_X2_9 dX2_strays_0 (by omega) (by omega) (fun q n0 hB0 => ?_)
  refine a_dup cx dX2_strays_3 rfl ?_
  refine c_I cx (j2_init cx.htr (hset_s _ _ _)) (lw_meth q136) q81 q134 q135 rfl dn_J2_init (RN.of rfl rfl rfl rfl) rfl rfl (Nat.le_of_ble_eq_true rfl) dX2_strays_4 (by omega) (by omega) (fun v9 h hp9 => ?_) (fun E9 q9 h9 hx9 => hx9.elim)
  obtain ⟨rfl, rfl, hl0⟩ := hp9
  rw [hset_hset] at *
  have hs0 := sub.new n0 (e := eO 12 [.int 0, .ref (gs g 0), .int 0])
  have hF0 := hF.up hs0
  refine a_astore_n cx dX2_strays_7 (Nat.le_of_ble_eq_true rfl) rfl ?_
  refine a_aload_n cx dX2_strays_8 rfl ?_
  refine a_get cx fl_X2_12.g dX2_strays_9 hF0.o (by exact rfl) ?_
  refine c_V cx (j2_iterator cx.htr hF0.la.1) (lw_V q298 q299 q300 q81 q301) dn_J2_iterator (RN.of rfl rfl rfl rfl) rfl hF0.la.1 rfl rfl rfl (Nat.le_of_ble_eq_true rfl) dX2_strays_12 (by omega) (by omega) (fun v9 h hp9 => ?_) (fun E9 q9 h9 hx9 => hx9.elim)
  obtain ⟨it, n12, hB12, rfl, rfl⟩ := hp9
  refine a_astore_n cx dX2_strays_15 (Nat.le_of_ble_eq_true rfl) rfl ?_
  have loop : ∀ (j0 k : Nat) (last : Int32) (h1 : AH) (ed cap : Nat) (mq : Int32), k ≤ nS s → nS s < k + j0 → sub h h1 → h1 it = some (itE (nI k) last ma a) → AL g h1 q ed mq cap (srl s ls k) → (ed = gs g 0 ∨ h ed = none) → AW g M (2 + k) (7 + 100 * k) 16 [some (.ref f), some (.ref q), some (.ref it), none, none] [] h1 := by
    intro j0
    induction j0 with
    | zero => intro k last h1 ed cap mq b1 b2; omega
    | succ j0 ih =>
      intro k last h1 ed cap mq b1 b2 hs hit hl hne
      have hF1 := hF.up hs
      refine a_aload_n cx dX2_strays_16 rfl ?_
      refine c_F cx (j8_hasNext cx.htr hit hF1.la.1 (by have := hF.nl; omega) (by omega)) (lw_F q322 q333 q335 q88 q337) (by decide +kernel) ⟨by decide, by decide, by decide +kernel⟩ (RN.of rfl rfl rfl rfl) rfl hit rfl rfl rfl (Nat.le_of_ble_eq_true rfl) dX2_strays_17 (by omega) (by omega) (pK ?_) (fun E9 q9 h9 hx9 => hx9.elim)
      refine a_if_eq cx (tgt := 53) dX2_strays_22 (by decide) (fun c22 => ?_) (fun c22 => ?_)
      · have d0 : k = nS s := (bne_eq_false_iff_eq.mp ((bI_0 _).mp c22)).trans hF.nl
        subst d0
        refine a_aload_n cx dX2_strays_53 rfl ?_
        exact a_aret cx hq dX2_strays_54 (Or.inl ⟨_, rfl⟩) ⟨q, ed, mq, cap, rfl, n0, hs, hl⟩ (by omega) (by omega)
      · have d0 : k < nS s := by have q := bne_iff_ne.mp (bI_n0 c22); have := hF.nl; omega
        refine a_aload_n cx dX2_strays_25 rfl ?_
        refine c_F cx (j8_next cx.htr hit hF1.la (by rw [hF.nl]; exact d0)) (lw_F q339 q445 q447 q88 q449) (by decide +kernel) ⟨by decide, by decide, by decide +kernel⟩ (RN.of rfl rfl rfl rfl) rfl hit rfl rfl rfl (Nat.le_of_ble_eq_true rfl) dX2_strays_26 (by omega) (by omega) (pK ?_) (fun E9 q9 h9 hx9 => hx9.elim)
        have hnit : h it = none := hs0.none n12
        obtain ⟨h2, eh2⟩ : ∃ z, z = hset h1 it (itE (nI (k + 1)) (nI k) ma a) := ⟨_, rfl⟩
        rw [← eh2]
        have hs2 : sub h h2 := by rw [eh2]; exact hs.set hnit
        have hF2 := hF.up hs2
        have hit2 : h2 it = some (itE (nI (k + 1)) (nI k) ma a) := by rw [eh2]; exact hset_s _ _ _
        have hsh := hF2.sh d0
        have hl2 : AL g h2 q ed mq cap (srl s ls k) := by rw [eh2]; exact hl.off hit nofun nofun
        refine a_castS (r := (RX4, TX4, 4)) cx q456 dX2_strays_31 hsh rfl ?_
        refine a_astore_n cx dX2_strays_34 (Nat.le_of_ble_eq_true rfl) rfl ?_
        refine a_aload_n cx dX2_strays_35 rfl ?_
        refine a_aload_n cx dX2_strays_36 rfl ?_
        refine c_V cx (f2_isStray cx.htr hF2 hn hm d0 (hW k d0)) (lw_V q778 q779 q780 q78 q781) dn_X2_isStray (RN.of rfl rfl rfl rfl) rfl hF2.o rfl rfl rfl (Nat.le_of_ble_eq_true rfl) dX2_strays_37 (by omega) (by omega) (pK ?_) (fun E9 q9 h9 hx9 => hx9.elim)
        refine a_if_eq cx (tgt := 50) dX2_strays_40 (by decide) (fun c40 => ?_) (fun c40 => ?_)
        · have e1 : srl s ls (k + 1) = srl s ls k := by rw [srl, (bI_0 _).mp c40]; exact List.append_nil _
          have hgo := ih (k + 1) (nI k) h2 ed cap mq (by omega) (by omega) hs2 hit2 (by rw [e1]; exact hl2) hne
          refine a_goto cx (tgt := 16) dX2_strays_50 (by decide) ?_
          refine AW.widen ?_ ?_ (AW.loc ?_ hgo)
          · omega
          · omega
          · exact ⟨rfl, rfl, rfl, trivial⟩
        · have e1 : srl s ls (k + 1) = srl s ls k ++ [ls.getD k 0] := by rw [srl, bI_n0 c40]; rfl
          refine a_aload_n cx dX2_strays_43 rfl ?_
          refine a_aload_n cx dX2_strays_44 rfl ?_
          refine c_V cx (j2_add cx.htr hl2 (by rw [srl_len]; have := strm_le s k; omega) (isOb_sh hsh) (fun z => by rw [z, hl2.1] at hsh; cases hsh) (fun y hy => by obtain ⟨k2, hk2, e⟩ := srl_mem hy; rw [e]; exact isOb_sh (hF2.sh (by omega))) (fun hy => by obtain ⟨k2, hk2, e⟩ := srl_mem hy; have := hF2.sh (k := k2) (by omega); rw [← e, hl2.1] at this; cases this)) (lw_V q492 q493 q494 q81 q495) dn_J2_add (RN.of rfl rfl rfl rfl) rfl hl2.1 rfl rfl rfl (Nat.le_of_ble_eq_true rfl) dX2_strays_45 (by omega) (by omega) (fun v9 h hp9 => ?_) (fun E9 q9 h9 hx9 => hx9.elim)
          obtain ⟨rfl, hA⟩ := hp9
          refine AW.hk fun hk8 => ?_
          obtain ⟨ed2, cap2, hA1, hA2, hA3, hA4⟩ := ADD.fresh hs2 n0 hne hA hk8.2.2.1
          have hgo := ih (k + 1) (nI k) _ ed2 cap2 _ (by omega) (by omega) hA2 (hA4 it _ hit2 (fun z => by rw [z, hl2.1] at hit2; cases hit2) (fun z => by obtain ⟨fn, e⟩ := hl2.arr; rw [z, e] at hit2; cases hit2)) (by rw [e1]; exact hA1) hA3
          refine a_istore cx dX2_strays_48 (Nat.le_of_ble_eq_true rfl) rfl ?_
          refine a_goto cx (tgt := 16) dX2_strays_50 (by decide) ?_
          refine AW.widen ?_ ?_ (AW.loc ?_ hgo)
          · omega
          · omega
          · exact ⟨rfl, rfl, rfl, trivial⟩
  exact AW.widen (by omega) (by omega) (loop (nS s + 1) 0 (-1) _ (gs g 0) 0 0 (Nat.zero_le _) (by omega) (hs0.set (hs0.none n12)) (hset_s _ _ _) (hl0.sub (sub.new n12)) (Or.inl rfl))
