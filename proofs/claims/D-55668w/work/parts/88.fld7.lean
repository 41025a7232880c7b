/-! FARTHEST; RANKS -/
set_option maxRecDepth 100000
abbrev rm_X10_farthest : Room := { frames := 10, cells := 1, slots := 2, locals := 200 }
set_option maxHeartbeats 4000000 in
theorem f10_farthest {lx : Launch} {g : GP} {h : AH} (htr : lx.stackTraces = false) {hb : AH} {f a ea ca b eb cb d : Nat} {ma mb : Int32} {ls lh : List Nat} {s : SF} (hF : FA g hb h f s a ea ma ca b eb mb cb d ls lh) (hn : nS s ≤ 18) {fl j : Nat} (hfl : h fl = some (eO 8 [.int (nI j), .ref f])) (hj : j < nH s) : KT lx g yX10_farthest (ws_ yX10_farthest cX10_farthest 5 (some (.object "FlockHuts$Sheep"))) rm_X10_farthest 1 2 [.ref fl] h (fun v h' => v = some (va_rf (rfo ls (fth s j (nS s)))) ∧ h' = h) (noX) := by
  refine KT.of (by decide +kernel) htr (Nat.le_of_ble_eq_true rfl) (L0 := [some (.ref fl), none, none, none, none]) rfl ?_
  intro M cx hl9 hq hin hnx
  have hR1 : rm_X10_farthest.cells = 1 := rfl
  have hR2 : rm_X10_farthest.slots = 2 := rfl
  refine AW.hk fun hk9 => ?_
  refine a_null cx dX10_farthest_0 ?_
  refine a_astore_n cx dX10_farthest_1 (Nat.le_of_ble_eq_true rfl) rfl ?_
  refine a_aload_n cx dX10_farthest_2 rfl ?_
  refine c_V cx (f10_iterator cx.htr hF hn hfl) (lw_V q682 q683 q684 q110 q685) dn_X10_iterator (RN.of rfl rfl rfl rfl) rfl hfl rfl rfl rfl (Nat.le_of_ble_eq_true rfl) dX10_farthest_3 (by omega) (by omega) (fun v9 h hp9 => ?_) (fun E9 q9 h9 hx9 => hx9.elim)
  obtain ⟨it, p0, rfl, n3, hB3, hx0, rfl⟩ := hp9
  refine a_astore_n cx dX10_farthest_6 (Nat.le_of_ble_eq_true rfl) rfl ?_
  have loop : ∀ (j0 p : Nat) (h1 : AH), p ≤ nS s → nS s < p + j0 → (p < nS s → s (63 + p) = nI j) → sub h h1 → h1 it = some (fiE (nI p) fl) → AW g M 1 2 7 [some (.ref fl), some (va_rf (rfo ls (fth s j p))), some (.ref it), none, none] [] h1 := by
    intro j0
    induction j0 with
    | zero => intro p h1 b1 b2; omega
    | succ j0 ih =>
      intro p h1 b1 b2 hd hs hit
      have hF1 := hF.up hs
      have hfl1 := hs _ _ hfl
      refine a_aload_n cx dX10_farthest_7 rfl ?_
      refine c_F cx (f11_hasNext cx.htr hF1 hn hfl1 hit b1) (lw_F q699 q326 q328 q111 q330) (by decide +kernel) ⟨by decide, by decide, by decide +kernel⟩ (RN.of rfl rfl rfl rfl) rfl hit rfl rfl rfl (Nat.le_of_ble_eq_true rfl) dX10_farthest_8 (by omega) (by omega) (pK ?_) (fun E9 q9 h9 hx9 => hx9.elim)
      refine a_if_eq cx (tgt := 96) dX10_farthest_13 (by decide) (fun c13 => ?_) (fun c13 => ?_)
      · have d0 : p = nS s := by have q := of_decide_eq_false ((bI_0 _).mp c13); omega
        subst d0
        refine a_aload_n cx dX10_farthest_96 rfl ?_ (isR_rf _)
        refine AW.hm hs (fun _ => hk9) ?_
        exact a_aret cx hq dX10_farthest_97 (Or.inl ⟨_, rfl⟩) ⟨rfl, rfl⟩ (by omega) (by omega) (isR_rf _)
      · have d0 : p < nS s := of_decide_eq_true (bI_n0 c13)
        have hu := hd d0
        refine a_aload_n cx dX10_farthest_16 rfl ?_
        refine c_F cx (f11_next cx.htr hF1 hn hfl1 hit d0) (lw_F q705 q342 q344 q111 q346) (by decide +kernel) ⟨by decide, by decide, by decide +kernel⟩ (RN.of rfl rfl rfl rfl) rfl hit rfl rfl rfl (Nat.le_of_ble_eq_true rfl) dX10_farthest_17 (by omega) (by omega) (fun v9 h hp9 => ?_) (fun E9 q9 h9 hx9 => hx9.elim)
        obtain ⟨p', rfl, hx, rfl⟩ := hp9
        obtain ⟨h2, eh2⟩ : ∃ z, z = hset h1 it (fiE (nI p') fl) := ⟨_, rfl⟩
        rw [← eh2]
        have hs2 : sub h h2 := by rw [eh2]; exact hs.set n3
        have hF2 := hF.up hs2
        have hfl2 := hs2 _ _ hfl
        have hit2 : h2 it = some (fiE (nI p') fl) := by rw [eh2]; exact hset_s _ _ _
        have hsh := hF2.sh d0
        refine a_castS (r := (RX4, TX4, 4)) cx q706 dX10_farthest_22 hsh rfl ?_
        refine a_astore_n cx dX10_farthest_25 (Nat.le_of_ble_eq_true rfl) rfl ?_
        refine a_aload_n cx dX10_farthest_26 rfl ?_ (isR_rf _)
        rcases hft : fth s j p with _ | b
        · have hstep : fth s j (p + 1) = some p := by rw [fth, if_pos hu, hft]
          refine a_ifnullN cx (tgt := 75) dX10_farthest_27 (by decide) ?_
          refine a_iconst cx (v := 1) dX10_farthest_75 (by decide) ?_
          refine a_goto cx (tgt := 80) dX10_farthest_76 (by decide) ?_
          refine a_istore cx dX10_farthest_80 (Nat.le_of_ble_eq_true rfl) rfl ?_
          refine a_iload cx dX10_farthest_82 rfl ?_
          refine a_if_eq cx (tgt := 91) dX10_farthest_84 (by decide) (fun c84 => absurd c84 (by decide)) (fun c84 => ?_)
          refine a_aload_n cx dX10_farthest_87 rfl ?_
          refine a_goto cx (tgt := 92) dX10_farthest_88 (by decide) ?_
          refine a_astore_n cx dX10_farthest_92 (Nat.le_of_ble_eq_true rfl) rfl ?_
          refine a_goto cx (tgt := 7) dX10_farthest_93 (by decide) ?_
          have hgo := ih p' h2 hx.2.1 (by have := hx.1; omega) hx.2.2.1 hs2 hit2
          rw [(hx.skip (F := fth s j) (fun k hk => by rw [fth, if_neg hk])).trans hstep] at hgo
          refine AW.widen ?_ ?_ (AW.loc ?_ hgo)
          · omega
          · omega
          · exact ⟨rfl, rfl, rfl, trivial⟩
        · have hb := fth_lt hft
          have hshb := hF2.sh (Nat.lt_trans hb d0)
          refine a_ifnull cx dX10_farthest_27 ?_
          refine a_aload_n cx dX10_farthest_30 rfl ?_
          refine a_aload_n cx dX10_farthest_31 rfl ?_
          refine a_get cx fl_X10_1.g dX10_farthest_32 hfl2 (by exact rfl) ?_
          refine a_get cx fl_X10_41 dX10_farthest_35 hF2.o (by exact rfl) ?_
          refine a_aload_n cx dX10_farthest_38 rfl ?_
          refine a_get cx fl_X10_13.g dX10_farthest_39 hfl2 (by exact rfl) ?_
          refine c_V cx (j2_get (i := j) cx.htr hF2.lb (by rw [hF2.nh]; exact hj)) (lw_V q768 q426 q427 q81 q428) dn_J2_get (RN.of rfl rfl rfl rfl) rfl hF2.lb.1 rfl rfl rfl (Nat.le_of_ble_eq_true rfl) dX10_farthest_42 (by omega) (by omega) (pK ?_) (fun E9 q9 h9 hx9 => hx9.elim)
          refine a_castI (RX5, TX5, 2) cx q769 q577 dX10_farthest_45 (hF2.hu hj) rfl ?_
          refine c_VD (na := 1) cx (f8_distancesh (w2 := 0) (u2 := 0) cx.htr hsh (hF2.hu hj)) (lw_meth q648) (List.mem_of_getElem? (i := 4) rfl) (List.mem_of_getElem? (i := 1) rfl) q644 q646 q107 (by decide +kernel) (RN.of rfl rfl rfl rfl) rfl (by decide +kernel) hsh rfl rfl rfl (Nat.le_of_ble_eq_true rfl) dX10_farthest_48 (by omega) (by omega) (pK ?_)
          refine AW.topi (show _ = far s p j from rfl) ?_
          refine a_aload_n cx dX10_farthest_51 rfl ?_
          refine a_aload_n cx dX10_farthest_52 rfl ?_
          refine a_get cx fl_X10_1.g dX10_farthest_53 hfl2 (by exact rfl) ?_
          refine a_get cx fl_X10_41 dX10_farthest_56 hF2.o (by exact rfl) ?_
          refine a_aload_n cx dX10_farthest_59 rfl ?_
          refine a_get cx fl_X10_13.g dX10_farthest_60 hfl2 (by exact rfl) ?_
          refine c_V cx (j2_get (i := j) cx.htr hF2.lb (by rw [hF2.nh]; exact hj)) (lw_V q768 q426 q427 q81 q428) dn_J2_get (RN.of rfl rfl rfl rfl) rfl hF2.lb.1 rfl rfl rfl (Nat.le_of_ble_eq_true rfl) dX10_farthest_63 (by omega) (by omega) (pK ?_) (fun E9 q9 h9 hx9 => hx9.elim)
          refine a_castI (RX5, TX5, 2) cx q769 q577 dX10_farthest_66 (hF2.hu hj) rfl ?_
          refine c_VD (na := 1) cx (f8_distancesh (w2 := 0) (u2 := 0) cx.htr hshb (hF2.hu hj)) (lw_meth q648) (List.mem_of_getElem? (i := 4) rfl) (List.mem_of_getElem? (i := 1) rfl) q644 q646 q107 (by decide +kernel) (RN.of rfl rfl rfl rfl) rfl (by decide +kernel) hshb rfl rfl rfl (Nat.le_of_ble_eq_true rfl) dX10_farthest_69 (by omega) (by omega) (pK ?_)
          refine AW.topi (show _ = far s b j from rfl) ?_
          refine a_icmp_le cx (tgt := 79) dX10_farthest_72 (by decide) (fun c72 => ?_) (fun c72 => ?_)
          · have hstep : fth s j (p + 1) = some b := by rw [fth, if_pos hu, hft]; exact if_neg (fun z => Int32.not_lt.mpr c72 z)
            refine a_iconst cx (v := 0) dX10_farthest_79 (by decide) ?_
            refine a_istore cx dX10_farthest_80 (Nat.le_of_ble_eq_true rfl) rfl ?_
            refine a_iload cx dX10_farthest_82 rfl ?_
            refine a_if_eq cx (tgt := 91) dX10_farthest_84 (by decide) (fun c84 => ?_) (fun c84 => absurd rfl c84)
            refine a_aload_n cx dX10_farthest_91 rfl ?_
            refine a_astore_n cx dX10_farthest_92 (Nat.le_of_ble_eq_true rfl) rfl ?_
            refine a_goto cx (tgt := 7) dX10_farthest_93 (by decide) ?_
            have hgo := ih p' h2 hx.2.1 (by have := hx.1; omega) hx.2.2.1 hs2 hit2
            rw [(hx.skip (F := fth s j) (fun k hk => by rw [fth, if_neg hk])).trans hstep] at hgo
            refine AW.widen ?_ ?_ (AW.loc ?_ hgo)
            · omega
            · omega
            · exact ⟨rfl, rfl, rfl, trivial⟩
          · have hstep : fth s j (p + 1) = some p := by rw [fth, if_pos hu, hft]; exact if_pos (Int32.not_le.mp c72)
            refine a_iconst cx (v := 1) dX10_farthest_75 (by decide) ?_
            refine a_goto cx (tgt := 80) dX10_farthest_76 (by decide) ?_
            refine a_istore cx dX10_farthest_80 (Nat.le_of_ble_eq_true rfl) rfl ?_
            refine a_iload cx dX10_farthest_82 rfl ?_
            refine a_if_eq cx (tgt := 91) dX10_farthest_84 (by decide) (fun c84 => absurd c84 (by decide)) (fun c84 => ?_)
            refine a_aload_n cx dX10_farthest_87 rfl ?_
            refine a_goto cx (tgt := 92) dX10_farthest_88 (by decide) ?_
            refine a_astore_n cx dX10_farthest_92 (Nat.le_of_ble_eq_true rfl) rfl ?_
            refine a_goto cx (tgt := 7) dX10_farthest_93 (by decide) ?_
            have hgo := ih p' h2 hx.2.1 (by have := hx.1; omega) hx.2.2.1 hs2 hit2
            rw [(hx.skip (F := fth s j) (fun k hk => by rw [fth, if_neg hk])).trans hstep] at hgo
            refine AW.widen ?_ ?_ (AW.loc ?_ hgo)
            · omega
            · omega
            · exact ⟨rfl, rfl, rfl, trivial⟩
  have hgo := loop (nS s + 1) p0 _ hx0.2.1 (by omega) hx0.2.2.1 (sub.new n3) (hset_s _ _ _)
  rw [hx0.skip (F := fth s j) (fun k hk => by rw [fth, if_neg hk])] at hgo
  exact AW.widen (by omega) (by omega) hgo
theorem sub_pos {a b : Nat} (ha : a < 2 ^ 30) (hb : b < 2 ^ 30) : (0 < nI a - nI b ↔ b < a) ∧ (nI a - nI b = 0 ↔ a = b) := by
  have h := pk_sub_toInt ha hb
  constructor
  · rw [Int32.lt_iff_toInt_lt, h, Int32.toInt_zero]; omega
  · rw [← Int32.toInt_inj, h, Int32.toInt_zero]; omega
theorem ahead_w {s : SF} {i j x y : Nat} (h1 : wt s (nI i) (nS s) = nI x) (h2 : wt s (nI j) (nS s) = nI y) (hx : x < 2 ^ 30) (hy : y < 2 ^ 30) (hne : x ≠ y) : ahead s i j = decide (y < x) := by
  unfold ahead
  rw [h1, h2, if_neg (fun z => hne (nI_inj (by omega) (by omega) z))]
  congr 1
  exact propext (nI_ltI (by omega) (by omega))
theorem ahead_c {s : SF} {i j : Nat} (h : wt s (nI i) (nS s) = wt s (nI j) (nS s)) : ahead s i j = decide (cnt s (nI i) (nS s) < cnt s (nI j) (nS s) ∨ (cnt s (nI i) (nS s) = cnt s (nI j) (nS s) ∧ i < j)) := by
  unfold ahead
  rw [if_pos h]
abbrev rm_X2_isAhead : Room := { frames := 14, cells := 8, slots := 16, locals := 320 }
set_option maxHeartbeats 4000000 in
theorem f2_isAhead {lx : Launch} {g : GP} {h : AH} (htr : lx.stackTraces = false) {hb : AH} {f a ea ca b eb cb d : Nat} {ma mb : Int32} {ls lh : List Nat} {s : SF} (hF : FA g hb h f s a ea ma ca b eb mb cb d ls lh) (hn : nS s ≤ 18) (hm : nH s ≤ 6) {i j : Nat} (hi : i < nH s) (hj : j < nH s) (hWW : WW s) : KT lx g yX2_isAhead (ws_ yX2_isAhead cX2_isAhead 4 (some .boolean)) rm_X2_isAhead 8 16 [.ref f, .int (nI i), .int (nI j)] h (isP (.int (bI (ahead s i j))) h) (noX) := by
  refine KT.of (by decide +kernel) htr (Nat.le_of_ble_eq_true rfl) (L0 := [some (.ref f), some (.int (nI i)), some (.int (nI j)), none]) rfl ?_
  intro M cx hl9 hq hin hnx
  refine AW.hk fun hk9 => ?_
  obtain ⟨x, ex, hx1, hx2⟩ := wt_nat (u := nI i) hWW (nS s) (Nat.le_refl _)
  obtain ⟨y, ey, hy1, hy2⟩ := wt_nat (u := nI j) hWW (nS s) (Nat.le_refl _)
  have hx3 : x ≤ 162 := by have := cnt_le s (nI i) (nS s); omega
  have hy3 : y ≤ 162 := by have := cnt_le s (nI j) (nS s); omega
  refine a_aload_n cx dX2_isAhead_0 rfl ?_
  refine a_iload_n cx dX2_isAhead_1 rfl ?_
  refine c_V cx (f2_flock (f := f) (u := nI i) cx.htr) (lw_V q659 q660 q661 q78 q662) dn_X2_flock (RN.of rfl rfl rfl rfl) rfl hF.o rfl rfl rfl (Nat.le_of_ble_eq_true rfl) dX2_isAhead_2 (Nat.le_of_ble_eq_true rfl) (Nat.le_of_ble_eq_true rfl) (fun v9 h hp9 => ?_) (fun E9 q9 h9 hx9 => hx9.elim)
  obtain ⟨fl, rfl, nf, hBf, rfl⟩ := hp9
  have hF1 := hF.up (sub.new nf (e := flE (nI i) f))
  refine c_V cx (f10_weight cx.htr hF1 hn (hset_s _ _ _)) (lw_V q1608 q708 q709 q110 q710) dn_X10_weight (RN.of rfl rfl rfl rfl) rfl (hset_s _ _ _) rfl rfl rfl (Nat.le_of_ble_eq_true rfl) dX2_isAhead_5 (Nat.le_of_ble_eq_true rfl) (Nat.le_of_ble_eq_true rfl) (pK ?_) (fun E9 q9 h9 hx9 => hx9.elim)
  refine AW.topi ex ?_
  refine AW.hm (sub.new nf) (fun _ => hk9) ?_
  refine a_aload_n cx dX2_isAhead_8 rfl ?_
  refine a_iload_n cx dX2_isAhead_9 rfl ?_
  refine c_V cx (f2_flock (f := f) (u := nI j) cx.htr) (lw_V q659 q660 q661 q78 q662) dn_X2_flock (RN.of rfl rfl rfl rfl) rfl hF.o rfl rfl rfl (Nat.le_of_ble_eq_true rfl) dX2_isAhead_10 (Nat.le_of_ble_eq_true rfl) (Nat.le_of_ble_eq_true rfl) (fun v9 h hp9 => ?_) (fun E9 q9 h9 hx9 => hx9.elim)
  obtain ⟨fl, rfl, nf, hBf, rfl⟩ := hp9
  have hF1 := hF.up (sub.new nf (e := flE (nI j) f))
  refine c_V cx (f10_weight cx.htr hF1 hn (hset_s _ _ _)) (lw_V q1608 q708 q709 q110 q710) dn_X10_weight (RN.of rfl rfl rfl rfl) rfl (hset_s _ _ _) rfl rfl rfl (Nat.le_of_ble_eq_true rfl) dX2_isAhead_13 (Nat.le_of_ble_eq_true rfl) (Nat.le_of_ble_eq_true rfl) (pK ?_) (fun E9 q9 h9 hx9 => hx9.elim)
  refine AW.topi ey ?_
  refine AW.hm (sub.new nf) (fun _ => hk9) ?_
  refine a_isub cx dX2_isAhead_16 ?_
  refine a_istore_n cx dX2_isAhead_17 (Nat.le_of_ble_eq_true rfl) rfl ?_
  by_cases hxy : x = y
  · have hw : wt s (nI i) (nS s) = wt s (nI j) (nS s) := by rw [ex, ey, hxy]
    have hz := sub_pos (a := cnt s (nI j) (nS s)) (b := cnt s (nI i) (nS s)) (by have := cnt_le s (nI j) (nS s); omega) (by have := cnt_le s (nI i) (nS s); omega)
    refine a_iload_n cx dX2_isAhead_18 rfl ?_
    refine a_if_eq cx (tgt := 26) dX2_isAhead_19 (by decide) (fun c19 => ?_) (fun c19 => absurd ((sub_pos (by omega) (by omega)).2.mpr hxy) c19)
    refine a_aload_n cx dX2_isAhead_26 rfl ?_
    refine a_iload_n cx dX2_isAhead_27 rfl ?_
    refine c_V cx (f2_flock (f := f) (u := nI j) cx.htr) (lw_V q659 q660 q661 q78 q662) dn_X2_flock (RN.of rfl rfl rfl rfl) rfl hF.o rfl rfl rfl (Nat.le_of_ble_eq_true rfl) dX2_isAhead_28 (Nat.le_of_ble_eq_true rfl) (Nat.le_of_ble_eq_true rfl) (fun v9 h hp9 => ?_) (fun E9 q9 h9 hx9 => hx9.elim)
    obtain ⟨fl, rfl, nf, hBf, rfl⟩ := hp9
    have hF1 := hF.up (sub.new nf (e := flE (nI j) f))
    refine c_V cx (f10_count cx.htr hF1 hn (hset_s _ _ _)) (lw_V q796 q797 q798 q110 q799) dn_X10_count (RN.of rfl rfl rfl rfl) rfl (hset_s _ _ _) rfl rfl rfl (Nat.le_of_ble_eq_true rfl) dX2_isAhead_31 (Nat.le_of_ble_eq_true rfl) (Nat.le_of_ble_eq_true rfl) (pK ?_) (fun E9 q9 h9 hx9 => hx9.elim)
    refine AW.hm (sub.new nf) (fun _ => hk9) ?_
    refine a_aload_n cx dX2_isAhead_34 rfl ?_
    refine a_iload_n cx dX2_isAhead_35 rfl ?_
    refine c_V cx (f2_flock (f := f) (u := nI i) cx.htr) (lw_V q659 q660 q661 q78 q662) dn_X2_flock (RN.of rfl rfl rfl rfl) rfl hF.o rfl rfl rfl (Nat.le_of_ble_eq_true rfl) dX2_isAhead_36 (Nat.le_of_ble_eq_true rfl) (Nat.le_of_ble_eq_true rfl) (fun v9 h hp9 => ?_) (fun E9 q9 h9 hx9 => hx9.elim)
    obtain ⟨fl, rfl, nf, hBf, rfl⟩ := hp9
    have hF1 := hF.up (sub.new nf (e := flE (nI i) f))
    refine c_V cx (f10_count cx.htr hF1 hn (hset_s _ _ _)) (lw_V q796 q797 q798 q110 q799) dn_X10_count (RN.of rfl rfl rfl rfl) rfl (hset_s _ _ _) rfl rfl rfl (Nat.le_of_ble_eq_true rfl) dX2_isAhead_39 (Nat.le_of_ble_eq_true rfl) (Nat.le_of_ble_eq_true rfl) (pK ?_) (fun E9 q9 h9 hx9 => hx9.elim)
    refine AW.hm (sub.new nf) (fun _ => hk9) ?_
    refine a_isub cx dX2_isAhead_42 ?_
    refine a_istore_n cx dX2_isAhead_43 (Nat.le_of_ble_eq_true rfl) rfl ?_
    refine a_iload_n cx dX2_isAhead_44 rfl ?_
    refine a_if_gt cx (tgt := 57) dX2_isAhead_45 (by decide) (fun c45 => ?_) (fun c45 => ?_)
    · have r : ahead s i j = true := by rw [ahead_c hw]; exact decide_eq_true (Or.inl (hz.1.mp c45))
      refine a_iconst cx (v := 1) dX2_isAhead_57 (by decide) ?_
      refine a_goto cx (tgt := 62) dX2_isAhead_58 (by decide) ?_
      exact a_zret cx hq dX2_isAhead_62 rfl ⟨by rw [r]; rfl, rfl⟩ (Nat.le_of_ble_eq_true rfl) (Nat.le_of_ble_eq_true rfl)
    · have d45 := fun z => c45 (hz.1.mpr z)
      refine a_iload_n cx dX2_isAhead_48 rfl ?_
      refine a_if_ne cx (tgt := 61) dX2_isAhead_49 (by decide) (fun c49 => ?_) (fun c49 => ?_)
      · have r : ahead s i j = false := by rw [ahead_c hw]; exact decide_eq_false (fun z => z.elim d45 (fun y => c49 (hz.2.mpr y.1.symm)))
        refine a_iconst cx (v := 0) dX2_isAhead_61 (by decide) ?_
        exact a_zret cx hq dX2_isAhead_62 rfl ⟨by rw [r]; rfl, rfl⟩ (Nat.le_of_ble_eq_true rfl) (Nat.le_of_ble_eq_true rfl)
      · have d49 := hz.2.mp c49
        refine a_iload_n cx dX2_isAhead_52 rfl ?_
        refine a_iload_n cx dX2_isAhead_53 rfl ?_
        refine a_icmp_ge cx (tgt := 61) dX2_isAhead_54 (by decide) (fun c54 => ?_) (fun c54 => ?_)
        · have r : ahead s i j = false := by rw [ahead_c hw]; exact decide_eq_false (fun z => z.elim d45 (fun y => by have := le_nI c54 (by omega) (by omega); omega))
          refine a_iconst cx (v := 0) dX2_isAhead_61 (by decide) ?_
          exact a_zret cx hq dX2_isAhead_62 rfl ⟨by rw [r]; rfl, rfl⟩ (Nat.le_of_ble_eq_true rfl) (Nat.le_of_ble_eq_true rfl)
        · have r : ahead s i j = true := by rw [ahead_c hw]; exact decide_eq_true (Or.inr ⟨d49.symm, nle_nI c54 (by omega) (by omega)⟩)
          refine a_iconst cx (v := 1) dX2_isAhead_57 (by decide) ?_
          refine a_goto cx (tgt := 62) dX2_isAhead_58 (by decide) ?_
          exact a_zret cx hq dX2_isAhead_62 rfl ⟨by rw [r]; rfl, rfl⟩ (Nat.le_of_ble_eq_true rfl) (Nat.le_of_ble_eq_true rfl)
  · have hz := sub_pos (a := x) (b := y) (by omega) (by omega)
    refine a_iload_n cx dX2_isAhead_18 rfl ?_
    refine a_if_eq cx (tgt := 26) dX2_isAhead_19 (by decide) (fun c19 => absurd (hz.2.mp c19) hxy) (fun c19 => ?_)
    refine a_iload_n cx dX2_isAhead_22 rfl ?_
    refine a_goto cx (tgt := 43) dX2_isAhead_23 (by decide) ?_
    refine a_istore_n cx dX2_isAhead_43 (Nat.le_of_ble_eq_true rfl) rfl ?_
    refine a_iload_n cx dX2_isAhead_44 rfl ?_
    refine a_if_gt cx (tgt := 57) dX2_isAhead_45 (by decide) (fun c45 => ?_) (fun c45 => ?_)
    · have r : ahead s i j = true := by rw [ahead_w ex ey (by omega) (by omega) hxy]; exact decide_eq_true (hz.1.mp c45)
      refine a_iconst cx (v := 1) dX2_isAhead_57 (by decide) ?_
      refine a_goto cx (tgt := 62) dX2_isAhead_58 (by decide) ?_
      exact a_zret cx hq dX2_isAhead_62 rfl ⟨by rw [r]; rfl, rfl⟩ (Nat.le_of_ble_eq_true rfl) (Nat.le_of_ble_eq_true rfl)
    · have r : ahead s i j = false := by rw [ahead_w ex ey (by omega) (by omega) hxy]; exact decide_eq_false (fun z => c45 (hz.1.mpr z))
      refine a_iload_n cx dX2_isAhead_48 rfl ?_
      refine a_if_ne cx (tgt := 61) dX2_isAhead_49 (by decide) (fun c49 => ?_) (fun c49 => absurd (hz.2.mp c49) hxy)
      refine a_iconst cx (v := 0) dX2_isAhead_61 (by decide) ?_
      exact a_zret cx hq dX2_isAhead_62 rfl ⟨by rw [r]; rfl, rfl⟩ (Nat.le_of_ble_eq_true rfl) (Nat.le_of_ble_eq_true rfl)
theorem ahead_self (s : SF) (j : Nat) : ahead s j j = false := by
  rw [ahead_c rfl]
  exact decide_eq_false (by omega)
theorem rnk_up (s : SF) (j i : Nat) : rnk s j (i + 1) = rnk s j i + if ahead s i j = true then 1 else 0 := by
  rw [rnk]
  by_cases e : i = j
  · subst e; rw [ahead_self, if_neg (by simp), if_neg (by decide)]
  · by_cases h : ahead s i j = true
    · rw [if_pos ⟨e, h⟩, if_pos h]
    · rw [if_neg (fun z => h z.2), if_neg h]
abbrev rm_X2_ranked : Room := { frames := 16, cells := 290, slots := 580, locals := 420 }
set_option maxHeartbeats 4000000 in
theorem f2_ranked {lx : Launch} {g : GP} {h : AH} (htr : lx.stackTraces = false) {hb : AH} {f a ea ca b eb cb d : Nat} {ma mb : Int32} {ls lh : List Nat} {s : SF} (hF : FA g hb h f s a ea ma ca b eb mb cb d ls lh) (hn : nS s ≤ 18) (hm : nH s ≤ 6) {u : Int32} (hWW : WW s) : KT lx g yX2_ranked (ws_ yX2_ranked cX2_ranked 5 (some .int)) rm_X2_ranked 290 580 [.ref f, .int u] h (isP (.int (oI (rkd s u (nH s)))) h) (noX) := by
  refine KT.of (by decide +kernel) htr (Nat.le_of_ble_eq_true rfl) (L0 := [some (.ref f), some (.int u), none, none, none]) rfl ?_
  intro M cx hl9 hq hin hnx
  have hR1 : rm_X2_ranked.cells = 290 := rfl
  have hR2 : rm_X2_ranked.slots = 580 := rfl
  refine AW.hk fun hk9 => ?_
  refine a_iconst cx (v := 0) dX2_ranked_0 (by decide) ?_
  refine a_istore_n cx dX2_ranked_1 (Nat.le_of_ble_eq_true rfl) rfl ?_
  have loop : ∀ (j k : Nat), k ≤ nH s → nH s < k + j → rkd s u k = none → AW g M (48 * k) (96 * k) 2 [some (.ref f), some (.int u), some (.int (nI k)), none, none] [] h := by
    intro j
    induction j with
    | zero => intro k h1 h2; omega
    | succ j ih =>
      intro k h1 h2 hx0
      refine a_iload_n cx dX2_ranked_2 rfl ?_
      refine a_aload_n cx dX2_ranked_3 rfl ?_
      refine a_get cx fl_X2_18.g dX2_ranked_4 hF.o (by exact rfl) ?_
      refine c_V cx (j2_size cx.htr hF.lb.1) (lw_V q638 q274 q275 q81 q276) dn_J2_size (RN.of rfl rfl rfl rfl) rfl hF.lb.1 rfl rfl rfl (Nat.le_of_ble_eq_true rfl) dX2_ranked_7 (by omega) (by omega) (pK ?_) (fun E9 q9 h9 hx9 => hx9.elim)
      refine AW.topi (congrArg nI hF.nh) ?_
      refine a_icmp_ge cx (tgt := 67) dX2_ranked_10 (by decide) (fun c10 => ?_) (fun c10 => ?_)
      · have d10 := le_nI c10 (by omega) (by omega)
        have e10 : k = nH s := by omega
        subst e10
        refine a_iconst cx (v := -1) dX2_ranked_67 (by decide) ?_
        exact a_iret cx hq dX2_ranked_68 ⟨by rw [hx0]; rfl, rfl⟩ (by omega) (by omega)
      · have d10 := nle_nI c10 (by omega) (by omega)
        refine a_iconst cx (v := 0) dX2_ranked_13 (by decide) ?_
        refine a_istore_n cx dX2_ranked_14 (Nat.le_of_ble_eq_true rfl) rfl ?_
        refine a_iconst cx (v := 0) dX2_ranked_15 (by decide) ?_
        refine a_istore cx dX2_ranked_16 (Nat.le_of_ble_eq_true rfl) rfl ?_
        have loop2 : ∀ (j2 i : Nat), i ≤ nH s → nH s < i + j2 → AW g M (48 * k + 8 * i) (96 * k + 16 * i) 18 [some (.ref f), some (.int u), some (.int (nI k)), some (.int (nI (rnk s k i))), some (.int (nI i))] [] h := by
          intro j2
          induction j2 with
          | zero => intro i h3 h4; omega
          | succ j2 ih2 =>
            intro i h3 h4
            refine a_iload cx dX2_ranked_18 rfl ?_
            refine a_aload_n cx dX2_ranked_20 rfl ?_
            refine a_get cx fl_X2_18.g dX2_ranked_21 hF.o (by exact rfl) ?_
            refine c_V cx (j2_size cx.htr hF.lb.1) (lw_V q638 q274 q275 q81 q276) dn_J2_size (RN.of rfl rfl rfl rfl) rfl hF.lb.1 rfl rfl rfl (Nat.le_of_ble_eq_true rfl) dX2_ranked_24 (by omega) (by omega) (pK ?_) (fun E9 q9 h9 hx9 => hx9.elim)
            refine AW.topi (congrArg nI hF.nh) ?_
            refine a_icmp_ge cx (tgt := 54) dX2_ranked_27 (by decide) (fun c27 => ?_) (fun c27 => ?_)
            · have d27 := le_nI c27 (by omega) (by omega)
              have e27 : i = nH s := by omega
              subst e27
              refine a_iload_n cx dX2_ranked_54 rfl ?_
              refine a_iload_n cx dX2_ranked_55 rfl ?_
              refine a_icmp_ne cx (tgt := 61) dX2_ranked_56 (by decide) (fun c56 => ?_) (fun c56 => ?_)
              · have hno : rkd s u (k + 1) = none := by rw [rkd, hx0]; exact if_neg c56
                refine a_iincN cx dX2_ranked_61 rfl (Nat.le_of_ble_eq_true rfl) rfl ?_
                refine a_goto cx (tgt := 2) dX2_ranked_64 (by decide) ?_
                refine AW.widen ?_ ?_ (AW.loc ?_ (ih (k + 1) (by omega) (by omega) hno))
                · omega
                · omega
                · exact ⟨rfl, rfl, rfl, trivial⟩
              · have hat := rkd_up (s := s) (u := u) (k := k) (by rw [rkd, hx0]; exact if_pos c56) (nH s) d10
                refine a_iload_n cx dX2_ranked_59 rfl ?_
                exact a_iret cx hq dX2_ranked_60 ⟨by rw [hat]; rfl, rfl⟩ (by omega) (by omega)
            · have d27 := nle_nI c27 (by omega) (by omega)
              refine a_iload_n cx dX2_ranked_30 rfl ?_
              refine a_aload_n cx dX2_ranked_31 rfl ?_
              refine a_iload cx dX2_ranked_32 rfl ?_
              refine a_iload_n cx dX2_ranked_34 rfl ?_
              refine c_V cx (f2_isAhead (i := i) (j := k) cx.htr hF hn hm d27 d10 hWW) (lw_V q1604 q1606 qs17 q78 q1607) dn_X2_isAhead (RN.of rfl rfl rfl rfl) rfl hF.o rfl rfl rfl (Nat.le_of_ble_eq_true rfl) dX2_ranked_35 (by omega) (by omega) (pK ?_) (fun E9 q9 h9 hx9 => hx9.elim)
              refine a_if_eq cx (tgt := 45) dX2_ranked_38 (by decide) (fun c38 => ?_) (fun c38 => ?_)
              · have hup : rnk s k (i + 1) = rnk s k i := by rw [rnk_up, (bI_0 _).mp c38]; rfl
                refine a_iconst cx (v := 0) dX2_ranked_45 (by decide) ?_
                refine a_iadd cx dX2_ranked_46 ?_
                refine AW.topi (show _ = nI (rnk s k i) from Int32.add_zero _) ?_
                refine a_istore_n cx dX2_ranked_47 (Nat.le_of_ble_eq_true rfl) rfl ?_
                refine a_iincN cx dX2_ranked_48 rfl (Nat.le_of_ble_eq_true rfl) rfl ?_
                refine a_goto cx (tgt := 18) dX2_ranked_51 (by decide) ?_
                have hgo := ih2 (i + 1) (by omega) (by omega)
                rw [hup] at hgo
                exact AW.widen (by omega) (by omega) hgo
              · have hup : rnk s k (i + 1) = rnk s k i + 1 := by rw [rnk_up, bI_n0 c38]; rfl
                refine a_iconst cx (v := 1) dX2_ranked_41 (by decide) ?_
                refine a_goto cx (tgt := 46) dX2_ranked_42 (by decide) ?_
                refine a_iadd cx dX2_ranked_46 ?_
                refine AW.topi (nI_1 _) ?_
                refine a_istore_n cx dX2_ranked_47 (Nat.le_of_ble_eq_true rfl) rfl ?_
                refine a_iincN cx dX2_ranked_48 rfl (Nat.le_of_ble_eq_true rfl) rfl ?_
                refine a_goto cx (tgt := 18) dX2_ranked_51 (by decide) ?_
                have hgo := ih2 (i + 1) (by omega) (by omega)
                rw [hup] at hgo
                exact AW.widen (by omega) (by omega) hgo
        exact loop2 (nH s + 1) 0 (by omega) (by omega)
  exact loop (nH s + 1) 0 (by omega) (by omega) rfl
