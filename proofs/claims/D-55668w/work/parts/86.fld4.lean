/-! THE FIELD: sums, strays, ranks -/
set_option maxRecDepth 100000
abbrev rm_X2_spread : Room := { frames := 14, cells := 12, slots := 24, locals := 320 }
set_option maxHeartbeats 4000000 in
theorem f2_spread {lx : Launch} {g : GP} {h : AH} (htr : lx.stackTraces = false) {hb : AH} {f a ea ca b eb cb d : Nat} {ma mb : Int32} {ls lh : List Nat} {s : SF} (hF : FA g hb h f s a ea ma ca b eb mb cb d ls lh) (hn : nS s ≤ 18) (hm : nH s ≤ 6) : KT lx g yX2_spread (ws_ yX2_spread cX2_spread 3 (some .int)) rm_X2_spread 12 24 [.ref f] h (isP (.int (sprs s (nH s))) h) (noX) := by
  refine KT.of (by decide +kernel) htr (Nat.le_of_ble_eq_true rfl) (L0 := [some (.ref f), none, none]) rfl ?_
  intro M cx hl9 hq hin hnx
  have hR1 : rm_X2_spread.cells = 12 := rfl
  have hR2 : rm_X2_spread.slots = 24 := rfl
  refine AW.hk fun hk9 => ?_
  refine a_iconst cx (v := 0) dX2_spread_0 (by decide) ?_
  refine a_istore_n cx dX2_spread_1 (Nat.le_of_ble_eq_true rfl) rfl ?_
  refine a_iconst cx (v := 0) dX2_spread_2 (by decide) ?_
  refine a_istore_n cx dX2_spread_3 (Nat.le_of_ble_eq_true rfl) rfl ?_
  have loop : ∀ (j k : Nat), k ≤ nH s → nH s < k + j → AW g M (2 * k) (4 * k) 4 [some (.ref f), some (.int (sprs s k)), some (.int (nI k))] [] h := by
    intro j
    induction j with
    | zero => intro k h1 h2; omega
    | succ j ih =>
      intro k h1 h2
      refine a_iload_n cx dX2_spread_4 rfl ?_
      refine a_aload_n cx dX2_spread_5 rfl ?_
      refine a_get cx fl_X2_18.g dX2_spread_6 hF.o (by exact rfl) ?_
      refine c_V cx (j2_size cx.htr hF.lb.1) (lw_V q638 q274 q275 q81 q276) dn_J2_size (RN.of rfl rfl rfl rfl) rfl hF.lb.1 rfl rfl rfl (Nat.le_of_ble_eq_true rfl) dX2_spread_9 (by omega) (by omega) (pK ?_) (fun E9 q9 h9 hx9 => hx9.elim)
      refine AW.topi (congrArg nI hF.nh) ?_
      refine a_icmp_ge cx (tgt := 32) dX2_spread_12 (by decide) (fun c12 => ?_) (fun c12 => ?_)
      · have d12 := le_nI c12 (by omega) (by omega)
        have e12 : k = nH s := by omega
        subst e12
        refine a_iload_n cx dX2_spread_32 rfl ?_
        exact a_iret cx hq dX2_spread_33 ⟨rfl, rfl⟩ (by omega) (by omega)
      · have d12 := nle_nI c12 (by omega) (by omega)
        refine a_iload_n cx dX2_spread_15 rfl ?_
        refine a_aload_n cx dX2_spread_16 rfl ?_
        refine a_iload_n cx dX2_spread_17 rfl ?_
        refine c_V cx (f2_flock (f := f) (u := nI k) cx.htr) (lw_V q659 q660 q661 q78 q662) dn_X2_flock (RN.of rfl rfl rfl rfl) rfl hF.o rfl rfl rfl (Nat.le_of_ble_eq_true rfl) dX2_spread_18 (by omega) (by omega) (fun v9 h hp9 => ?_) (fun E9 q9 h9 hx9 => hx9.elim)
        obtain ⟨fl, rfl, nf, hBf, rfl⟩ := hp9
        have hF1 := hF.up (sub.new nf (e := flE (nI k) f))
        refine c_V cx (f10_spread cx.htr hF1 hn (hset_s _ _ _) d12) (lw_V q764 q765 q766 q110 q767) dn_X10_spread (RN.of rfl rfl rfl rfl) rfl (hset_s _ _ _) rfl rfl rfl (Nat.le_of_ble_eq_true rfl) dX2_spread_21 (by omega) (by omega) (pK ?_) (fun E9 q9 h9 hx9 => hx9.elim)
        refine AW.hm (sub.new nf) (fun _ => hk9) ?_
        refine a_iadd cx dX2_spread_24 ?_
        refine a_istore_n cx dX2_spread_25 (Nat.le_of_ble_eq_true rfl) rfl ?_
        refine a_iincN cx dX2_spread_26 rfl (Nat.le_of_ble_eq_true rfl) rfl ?_
        refine a_goto cx (tgt := 4) dX2_spread_29 (by decide) ?_
        exact AW.widen (by omega) (by omega) (ih (k + 1) (by omega) (by omega))
  exact loop (nH s + 1) 0 (by omega) (by omega)
/-- the sums of spreadAgain -/
def sga (s : SF) : Nat → Int32
  | 0 => 0
  | k + 1 => if s (63 + k) = -1 then sga s k else sga s k + s (45 + k) * (s (9 + k) * s (9 + k) + s (27 + k) * s (27 + k) + s (81 + oN (s (63 + k))) * s (81 + oN (s (63 + k))) + s (87 + oN (s (63 + k))) * s (87 + oN (s (63 + k))))
def sgb (s : SF) : Nat → Int32
  | 0 => 0
  | k + 1 => if s (63 + k) = -1 then sgb s k else sgb s k + s (45 + k) * (s (9 + k) * s (81 + oN (s (63 + k))) + s (27 + k) * s (87 + oN (s (63 + k))))
abbrev rm_X2_spreadAgain : Room := { frames := 3, cells := 1, slots := 4, locals := 64 }
set_option maxHeartbeats 4000000 in
theorem f2_spreadAgain {lx : Launch} {g : GP} {h : AH} (htr : lx.stackTraces = false) {hb : AH} {f a ea ca b eb cb d : Nat} {ma mb : Int32} {ls lh : List Nat} {s : SF} (hF : FA g hb h f s a ea ma ca b eb mb cb d ls lh) (hn : nS s ≤ 18) (hm : nH s ≤ 6) (hW : ∀ k, k < nS s → isO (s (63 + k)) (nH s)) : KT lx g yX2_spreadAgain (ws_ yX2_spreadAgain cX2_spreadAgain 6 (some .int)) rm_X2_spreadAgain 1 4 [.ref f] h (isP (.int (sga s (nS s) - 2 * sgb s (nS s))) h) (noX) := by
  refine KT.of (by decide +kernel) htr (Nat.le_of_ble_eq_true rfl) (L0 := [some (.ref f), none, none, none, none, none]) rfl ?_
  intro M cx hl9 hq hin hnx
  refine AW.hk fun hk9 => ?_
  refine a_iconst cx (v := 0) dX2_spreadAgain_0 (by decide) ?_
  refine a_istore_n cx dX2_spreadAgain_1 (Nat.le_of_ble_eq_true rfl) rfl ?_
  refine a_iconst cx (v := 0) dX2_spreadAgain_2 (by decide) ?_
  refine a_istore_n cx dX2_spreadAgain_3 (Nat.le_of_ble_eq_true rfl) rfl ?_
  refine a_aload_n cx dX2_spreadAgain_4 rfl ?_
  refine a_get cx fl_X2_12.g dX2_spreadAgain_5 hF.o (by exact rfl) ?_
  refine c_V cx (j2_iterator cx.htr hF.la.1) (lw_V q298 q299 q300 q81 q301) dn_J2_iterator (RN.of rfl rfl rfl rfl) rfl hF.la.1 rfl rfl rfl (Nat.le_of_ble_eq_true rfl) dX2_spreadAgain_8 (Nat.le_of_ble_eq_true rfl) (Nat.le_of_ble_eq_true rfl) (fun v9 h hp9 => ?_) (fun E9 q9 h9 hx9 => hx9.elim)
  obtain ⟨it, n8, hB8, rfl, rfl⟩ := hp9
  refine a_astore_n cx dX2_spreadAgain_11 (Nat.le_of_ble_eq_true rfl) rfl ?_
  have loop : ∀ (j0 k : Nat) (last : Int32) (h1 : AH), k ≤ nS s → nS s < k + j0 → sub h h1 → h1 it = some (itE (nI k) last ma a) → AW g M 1 4 12 [some (.ref f), some (.int (sga s k)), some (.int (sgb s k)), some (.ref it), none, none] [] h1 := by
    intro j0
    induction j0 with
    | zero => intro k last h1 b1 b2; omega
    | succ j0 ih =>
      intro k last h1 b1 b2 hs hit
      have hF1 := hF.up hs
      refine a_aload_n cx dX2_spreadAgain_12 rfl ?_
      refine c_F cx (j8_hasNext cx.htr hit hF1.la.1 (by have := hF.nl; omega) (by omega)) (lw_F q322 q333 q335 q88 q337) (by decide +kernel) ⟨by decide, by decide, by decide +kernel⟩ (RN.of rfl rfl rfl rfl) rfl hit rfl rfl rfl (Nat.le_of_ble_eq_true rfl) dX2_spreadAgain_13 (Nat.le_of_ble_eq_true rfl) (Nat.le_of_ble_eq_true rfl) (pK ?_) (fun E9 q9 h9 hx9 => hx9.elim)
      refine a_if_eq cx (tgt := 149) dX2_spreadAgain_18 (by decide) (fun c18 => ?_) (fun c18 => ?_)
      · have d0 : k = nS s := (bne_eq_false_iff_eq.mp ((bI_0 _).mp c18)).trans hF.nl
        subst d0
        refine a_iload_n cx dX2_spreadAgain_149 rfl ?_
        refine a_iconst cx (v := 2) dX2_spreadAgain_150 (by decide) ?_
        refine a_iload_n cx dX2_spreadAgain_151 rfl ?_
        refine a_imul cx dX2_spreadAgain_152 ?_
        refine a_isub cx dX2_spreadAgain_153 ?_
        refine AW.hm hs (fun _ => hk9) ?_
        exact a_iret cx hq dX2_spreadAgain_154 ⟨rfl, rfl⟩ (Nat.le_of_ble_eq_true rfl) (Nat.le_of_ble_eq_true rfl)
      · have d0 : k < nS s := by have q := bne_iff_ne.mp (bI_n0 c18); have := hF.nl; omega
        refine a_aload_n cx dX2_spreadAgain_21 rfl ?_
        refine c_F cx (j8_next cx.htr hit hF1.la (by rw [hF.nl]; exact d0)) (lw_F q339 q445 q447 q88 q449) (by decide +kernel) ⟨by decide, by decide, by decide +kernel⟩ (RN.of rfl rfl rfl rfl) rfl hit rfl rfl rfl (Nat.le_of_ble_eq_true rfl) dX2_spreadAgain_22 (Nat.le_of_ble_eq_true rfl) (Nat.le_of_ble_eq_true rfl) (pK ?_) (fun E9 q9 h9 hx9 => hx9.elim)
        obtain ⟨h2, eh2⟩ : ∃ z, z = hset h1 it (itE (nI (k + 1)) (nI k) ma a) := ⟨_, rfl⟩
        rw [← eh2]
        have hs2 : sub h h2 := by rw [eh2]; exact hs.set n8
        have hF2 := hF.up hs2
        have hit2 : h2 it = some (itE (nI (k + 1)) (nI k) ma a) := by rw [eh2]; exact hset_s _ _ _
        have hsh := hF2.sh d0
        refine a_castS (r := (RX4, TX4, 4)) cx q456 dX2_spreadAgain_27 hsh rfl ?_
        refine a_astore cx dX2_spreadAgain_30 (Nat.le_of_ble_eq_true rfl) rfl ?_
        refine a_aload cx dX2_spreadAgain_32 rfl ?_
        refine a_get cx fl_X2_107.g dX2_spreadAgain_34 hsh (by exact rfl) ?_
        refine a_iconst cx (v := -1) dX2_spreadAgain_37 (by decide) ?_
        refine a_icmp_eq cx (tgt := 146) dX2_spreadAgain_38 (by decide) (fun c38 => ?_) (fun c38 => ?_)
        · have e1 : sga s (k + 1) = sga s k := by rw [sga, if_pos c38]
          have e2 : sgb s (k + 1) = sgb s k := by rw [sgb, if_pos c38]
          refine a_goto cx (tgt := 12) dX2_spreadAgain_146 (by decide) ?_
          have hgo := ih (k + 1) (nI k) h2 (by omega) (by omega) hs2 hit2
          rw [e1, e2] at hgo
          refine AW.widen ?_ ?_ (AW.loc ?_ hgo)
          · omega
          · omega
          · exact ⟨rfl, rfl, rfl, rfl, trivial⟩
        · obtain ⟨j, hj, ej⟩ := (hW k d0).resolve_left c38
          have e1 : sga s (k + 1) = sga s k + s (45 + k) * (s (9 + k) * s (9 + k) + s (27 + k) * s (27 + k) + s (81 + j) * s (81 + j) + s (87 + j) * s (87 + j)) := by rw [sga, if_neg c38, ej, oN_nI (by omega)]
          have e2 : sgb s (k + 1) = sgb s k + s (45 + k) * (s (9 + k) * s (81 + j) + s (27 + k) * s (87 + j)) := by rw [sgb, if_neg c38, ej, oN_nI (by omega)]
          refine a_aload_n cx dX2_spreadAgain_41 rfl ?_
          refine a_get cx fl_X2_18.g dX2_spreadAgain_42 hF2.o (by exact rfl) ?_
          refine a_aload cx dX2_spreadAgain_45 rfl ?_
          refine a_get cx fl_X2_107.g dX2_spreadAgain_47 hsh (by exact rfl) ?_
          refine AW.topi ej ?_
          refine c_V cx (j2_get (i := j) cx.htr hF2.lb (by rw [hF2.nh]; exact hj)) (lw_V q639 q426 q427 q81 q428) dn_J2_get (RN.of rfl rfl rfl rfl) rfl hF2.lb.1 rfl rfl rfl (Nat.le_of_ble_eq_true rfl) dX2_spreadAgain_50 (Nat.le_of_ble_eq_true rfl) (Nat.le_of_ble_eq_true rfl) (pK ?_) (fun E9 q9 h9 hx9 => hx9.elim)
          refine a_castS (r := (RX5, TX5, 2)) cx q563 dX2_spreadAgain_53 (hF2.hu hj) rfl ?_
          refine a_astore cx dX2_spreadAgain_56 (Nat.le_of_ble_eq_true rfl) rfl ?_
          refine a_iload_n cx dX2_spreadAgain_58 rfl ?_
          refine a_aload cx dX2_spreadAgain_59 rfl ?_
          refine a_get cx fl_X2_172.g dX2_spreadAgain_61 hsh (by exact rfl) ?_
          refine a_aload cx dX2_spreadAgain_64 rfl ?_
          refine a_get cx fl_X2_207 dX2_spreadAgain_66 hsh (by exact rfl) ?_
          refine a_aload cx dX2_spreadAgain_69 rfl ?_
          refine a_get cx fl_X2_207 dX2_spreadAgain_71 hsh (by exact rfl) ?_
          refine a_imul cx dX2_spreadAgain_74 ?_
          refine a_aload cx dX2_spreadAgain_75 rfl ?_
          refine a_get cx fl_X2_210 dX2_spreadAgain_77 hsh (by exact rfl) ?_
          refine a_aload cx dX2_spreadAgain_80 rfl ?_
          refine a_get cx fl_X2_210 dX2_spreadAgain_82 hsh (by exact rfl) ?_
          refine a_imul cx dX2_spreadAgain_85 ?_
          refine a_iadd cx dX2_spreadAgain_86 ?_
          refine a_aload cx dX2_spreadAgain_87 rfl ?_
          refine a_get cx fl_X2_213.g dX2_spreadAgain_89 (hF2.hu hj) (by exact rfl) ?_
          refine a_aload cx dX2_spreadAgain_92 rfl ?_
          refine a_get cx fl_X2_213.g dX2_spreadAgain_94 (hF2.hu hj) (by exact rfl) ?_
          refine a_imul cx dX2_spreadAgain_97 ?_
          refine a_iadd cx dX2_spreadAgain_98 ?_
          refine a_aload cx dX2_spreadAgain_99 rfl ?_
          refine a_get cx fl_X2_214.g dX2_spreadAgain_101 (hF2.hu hj) (by exact rfl) ?_
          refine a_aload cx dX2_spreadAgain_104 rfl ?_
          refine a_get cx fl_X2_214.g dX2_spreadAgain_106 (hF2.hu hj) (by exact rfl) ?_
          refine a_imul cx dX2_spreadAgain_109 ?_
          refine a_iadd cx dX2_spreadAgain_110 ?_
          refine a_imul cx dX2_spreadAgain_111 ?_
          refine a_iadd cx dX2_spreadAgain_112 ?_
          refine a_istore_n cx dX2_spreadAgain_113 (Nat.le_of_ble_eq_true rfl) rfl ?_
          refine a_iload_n cx dX2_spreadAgain_114 rfl ?_
          refine a_aload cx dX2_spreadAgain_115 rfl ?_
          refine a_get cx fl_X2_172.g dX2_spreadAgain_117 hsh (by exact rfl) ?_
          refine a_aload cx dX2_spreadAgain_120 rfl ?_
          refine a_get cx fl_X2_207 dX2_spreadAgain_122 hsh (by exact rfl) ?_
          refine a_aload cx dX2_spreadAgain_125 rfl ?_
          refine a_get cx fl_X2_213.g dX2_spreadAgain_127 (hF2.hu hj) (by exact rfl) ?_
          refine a_imul cx dX2_spreadAgain_130 ?_
          refine a_aload cx dX2_spreadAgain_131 rfl ?_
          refine a_get cx fl_X2_210 dX2_spreadAgain_133 hsh (by exact rfl) ?_
          refine a_aload cx dX2_spreadAgain_136 rfl ?_
          refine a_get cx fl_X2_214.g dX2_spreadAgain_138 (hF2.hu hj) (by exact rfl) ?_
          refine a_imul cx dX2_spreadAgain_141 ?_
          refine a_iadd cx dX2_spreadAgain_142 ?_
          refine a_imul cx dX2_spreadAgain_143 ?_
          refine a_iadd cx dX2_spreadAgain_144 ?_
          refine a_istore_n cx dX2_spreadAgain_145 (Nat.le_of_ble_eq_true rfl) rfl ?_
          refine a_goto cx (tgt := 12) dX2_spreadAgain_146 (by decide) ?_
          have hgo := ih (k + 1) (nI k) h2 (by omega) (by omega) hs2 hit2
          rw [e1, e2] at hgo
          refine AW.widen ?_ ?_ (AW.loc ?_ hgo)
          · omega
          · omega
          · exact ⟨rfl, rfl, rfl, rfl, trivial⟩
  exact loop (nS s + 1) 0 (-1) _ (Nat.zero_le _) (by omega) (sub.new n8) (hset_s _ _ _)
theorem cw_ok {s : SF} {k : Nat} (hw : ∃ w : Nat, 1 ≤ w ∧ w ≤ 9 ∧ s (45 + k) = nI w) : (0 < s (45 + k) * farO s k → s (45 + k) * farO s k = wfar s k) ∧ (¬ 0 < s (45 + k) * farO s k → ¬ 0 < wfar s k) := by
  unfold farO wfar
  by_cases h : s (63 + k) = -1
  · rw [if_pos h, if_pos h]
    obtain ⟨w, h1, h2, e⟩ := hw
    rw [e]
    refine ⟨fun q => ?_, fun _ => by decide⟩
    have : nI w * -1 = -nI w := by grind
    rw [this, Int32.lt_iff_toInt_lt, sb_negT (by omega), Int32.toInt_zero] at q
    omega
  · rw [if_neg h, if_neg h]
    exact ⟨fun _ => rfl, fun q => q⟩
theorem ol_f {s : SF} {k : Nat} (h : ¬ (ol s k).2 < wfar s k) : (ol s (k + 1)).1 = (ol s k).1 := by rw [ol, if_neg h]
theorem ol_t {s : SF} {k : Nat} (h : (ol s k).2 < wfar s k) : (ol s (k + 1)).1 = some k := by rw [ol, if_pos h]
theorem ol_ge (s : SF) (k : Nat) : 0 ≤ (ol s k).2 := by
  cases ho : (ol s k).1 with
  | none => rw [(ol_val s k).1 ho]; decide
  | some b => rw [((ol_val s k).2 b ho).1]; exact Int32.le_of_lt ((ol_val s k).2 b ho).2
abbrev rm_X2_lost : Room := { frames := 4, cells := 1, slots := 4, locals := 85 }
set_option maxHeartbeats 4000000 in
theorem f2_lost {lx : Launch} {g : GP} {h : AH} (htr : lx.stackTraces = false) {hb : AH} {f a ea ca b eb cb d : Nat} {ma mb : Int32} {ls lh : List Nat} {s : SF} (hF : FA g hb h f s a ea ma ca b eb mb cb d ls lh) (hn : nS s ≤ 18) (hm : nH s ≤ 6) (hW : ∀ k, k < nS s → isO (s (63 + k)) (nH s)) (hWW : WW s) : KT lx g yX2_lost (ws_ yX2_lost cX2_lost 5 (some (.object "FlockHuts$Sheep"))) rm_X2_lost 1 4 [.ref f] h (fun v h' => v = some (va_rf (rfo ls (outl s))) ∧ h' = h) (noX) := by
  refine KT.of (by decide +kernel) htr (Nat.le_of_ble_eq_true rfl) (L0 := [some (.ref f), none, none, none, none]) rfl ?_
  intro M cx hl9 hq hin hnx
  refine AW.hk fun hk9 => ?_
  refine a_null cx dX2_lost_0 ?_
  refine a_astore_n cx dX2_lost_1 (Nat.le_of_ble_eq_true rfl) rfl ?_
  refine a_aload_n cx dX2_lost_2 rfl ?_
  refine a_get cx fl_X2_12.g dX2_lost_3 hF.o (by exact rfl) ?_
  refine c_V cx (j2_iterator cx.htr hF.la.1) (lw_V q298 q299 q300 q81 q301) dn_J2_iterator (RN.of rfl rfl rfl rfl) rfl hF.la.1 rfl rfl rfl (Nat.le_of_ble_eq_true rfl) dX2_lost_6 (Nat.le_of_ble_eq_true rfl) (Nat.le_of_ble_eq_true rfl) (fun v9 h hp9 => ?_) (fun E9 q9 h9 hx9 => hx9.elim)
  obtain ⟨it, n6, hB6, rfl, rfl⟩ := hp9
  refine a_astore_n cx dX2_lost_9 (Nat.le_of_ble_eq_true rfl) rfl ?_
  have loop : ∀ (j0 k : Nat) (last : Int32) (h1 : AH), k ≤ nS s → nS s < k + j0 → sub h h1 → h1 it = some (itE (nI k) last ma a) → AW g M 1 4 10 [some (.ref f), some (va_rf (rfo ls (ol s k).1)), some (.ref it), none, none] [] h1 := by
    intro j0
    induction j0 with
    | zero => intro k last h1 b1 b2; omega
    | succ j0 ih =>
      intro k last h1 b1 b2 hs hit
      have hF1 := hF.up hs
      refine a_aload_n cx dX2_lost_10 rfl ?_
      refine c_F cx (j8_hasNext cx.htr hit hF1.la.1 (by have := hF.nl; omega) (by omega)) (lw_F q322 q333 q335 q88 q337) (by decide +kernel) ⟨by decide, by decide, by decide +kernel⟩ (RN.of rfl rfl rfl rfl) rfl hit rfl rfl rfl (Nat.le_of_ble_eq_true rfl) dX2_lost_11 (Nat.le_of_ble_eq_true rfl) (Nat.le_of_ble_eq_true rfl) (pK ?_) (fun E9 q9 h9 hx9 => hx9.elim)
      refine a_if_eq cx (tgt := 74) dX2_lost_16 (by decide) (fun c16 => ?_) (fun c16 => ?_)
      · have d0 : k = nS s := (bne_eq_false_iff_eq.mp ((bI_0 _).mp c16)).trans hF.nl
        subst d0
        refine a_aload_n cx dX2_lost_74 rfl ?_ (isR_rf _)
        refine AW.hm hs (fun _ => hk9) ?_
        exact a_aret cx hq dX2_lost_75 (Or.inl ⟨_, rfl⟩) ⟨rfl, rfl⟩ (Nat.le_of_ble_eq_true rfl) (Nat.le_of_ble_eq_true rfl) (isR_rf _)
      · have d0 : k < nS s := by have q := bne_iff_ne.mp (bI_n0 c16); have := hF.nl; omega
        refine a_aload_n cx dX2_lost_19 rfl ?_
        refine c_F cx (j8_next cx.htr hit hF1.la (by rw [hF.nl]; exact d0)) (lw_F q339 q445 q447 q88 q449) (by decide +kernel) ⟨by decide, by decide, by decide +kernel⟩ (RN.of rfl rfl rfl rfl) rfl hit rfl rfl rfl (Nat.le_of_ble_eq_true rfl) dX2_lost_20 (Nat.le_of_ble_eq_true rfl) (Nat.le_of_ble_eq_true rfl) (pK ?_) (fun E9 q9 h9 hx9 => hx9.elim)
        obtain ⟨h2, eh2⟩ : ∃ z, z = hset h1 it (itE (nI (k + 1)) (nI k) ma a) := ⟨_, rfl⟩
        rw [← eh2]
        have hs2 : sub h h2 := by rw [eh2]; exact hs.set n6
        have hF2 := hF.up hs2
        have hit2 : h2 it = some (itE (nI (k + 1)) (nI k) ma a) := by rw [eh2]; exact hset_s _ _ _
        have hsh := hF2.sh d0
        refine a_castS (r := (RX4, TX4, 4)) cx q456 dX2_lost_25 hsh rfl ?_
        refine a_astore_n cx dX2_lost_28 (Nat.le_of_ble_eq_true rfl) rfl ?_
        refine a_aload_n cx dX2_lost_29 rfl ?_
        refine a_get cx fl_X2_172.g dX2_lost_30 hsh (by exact rfl) ?_
        refine a_aload_n cx dX2_lost_33 rfl ?_
        refine a_aload_n cx dX2_lost_34 rfl ?_
        refine c_V cx (f2_distance cx.htr hF2 hn hm d0 (hW k d0)) (lw_V q732 q733 q734 q78 q735) dn_X2_distance (RN.of rfl rfl rfl rfl) rfl hF2.o rfl rfl rfl (Nat.le_of_ble_eq_true rfl) dX2_lost_35 (Nat.le_of_ble_eq_true rfl) (Nat.le_of_ble_eq_true rfl) (pK ?_) (fun E9 q9 h9 hx9 => hx9.elim)
        refine a_imul cx dX2_lost_38 ?_
        refine a_istore cx dX2_lost_39 (Nat.le_of_ble_eq_true rfl) rfl ?_
        refine a_iload cx dX2_lost_41 rfl ?_
        refine a_if_le cx (tgt := 69) dX2_lost_43 (by decide) (fun c43 => ?_) (fun c43 => ?_)
        · have e1 : (ol s (k + 1)).1 = (ol s k).1 := ol_f (fun z => (cw_ok (hWW k d0)).2 (fun y => Int32.not_le.mpr y c43) (Int32.lt_of_le_of_lt (ol_ge s k) z))
          refine a_aload_n cx dX2_lost_69 rfl ?_ (isR_rf _)
          refine a_astore_n cx dX2_lost_70 (Nat.le_of_ble_eq_true rfl) rfl ?_ (isR_rf _)
          refine a_goto cx (tgt := 10) dX2_lost_71 (by decide) ?_
          have hgo := ih (k + 1) (nI k) h2 (by omega) (by omega) hs2 hit2
          rw [e1] at hgo
          refine AW.widen ?_ ?_ (AW.loc ?_ hgo)
          · omega
          · omega
          · exact ⟨rfl, rfl, rfl, trivial⟩
        · have d43 : 0 < s (45 + k) * farO s k := Int32.not_le.mp c43
          have e43 := (cw_ok (hWW k d0)).1 d43
          refine a_aload_n cx dX2_lost_46 rfl ?_ (isR_rf _)
          rcases hol : (ol s k).1 with _ | b
          · have e1 : (ol s (k + 1)).1 = some k := ol_t (by rw [(ol_val s k).1 hol, ← e43]; exact d43)
            refine a_ifnullN cx (tgt := 65) dX2_lost_47 (by decide) ?_
            refine a_aload_n cx dX2_lost_65 rfl ?_
            refine a_goto cx (tgt := 70) dX2_lost_66 (by decide) ?_
            refine a_astore_n cx dX2_lost_70 (Nat.le_of_ble_eq_true rfl) rfl ?_
            refine a_goto cx (tgt := 10) dX2_lost_71 (by decide) ?_
            have hgo := ih (k + 1) (nI k) h2 (by omega) (by omega) hs2 hit2
            rw [e1] at hgo
            refine AW.widen ?_ ?_ (AW.loc ?_ hgo)
            · omega
            · omega
            · exact ⟨rfl, rfl, rfl, trivial⟩
          · have hb := ol_val s k |>.2 b hol
            have hbk := Nat.lt_trans (ol_lt hol) d0
            have hshb := hF2.sh hbk
            refine a_ifnull cx dX2_lost_47 ?_
            refine a_iload cx dX2_lost_50 rfl ?_
            refine a_aload_n cx dX2_lost_52 rfl ?_
            refine a_get cx fl_X2_172.g dX2_lost_53 hshb (by exact rfl) ?_
            refine a_aload_n cx dX2_lost_56 rfl ?_
            refine a_aload_n cx dX2_lost_57 rfl ?_
            refine c_V cx (f2_distance cx.htr hF2 hn hm hbk (hW b hbk)) (lw_V q732 q733 q734 q78 q735) dn_X2_distance (RN.of rfl rfl rfl rfl) rfl hF2.o rfl rfl rfl (Nat.le_of_ble_eq_true rfl) dX2_lost_58 (Nat.le_of_ble_eq_true rfl) (Nat.le_of_ble_eq_true rfl) (pK ?_) (fun E9 q9 h9 hx9 => hx9.elim)
            refine a_imul cx dX2_lost_61 ?_
            refine a_icmp_le cx (tgt := 69) dX2_lost_62 (by decide) (fun c62 => ?_) (fun c62 => ?_)
            · have e1 : (ol s (k + 1)).1 = some b := (ol_f (fun z => by
                rw [hb.1, ← e43] at z
                by_cases y : 0 < s (45 + b) * farO s b
                · rw [(cw_ok (hWW b hbk)).1 y] at c62
                  exact Int32.not_le.mpr z c62
                · exact (cw_ok (hWW b hbk)).2 y hb.2)).trans hol
              refine a_aload_n cx dX2_lost_69 rfl ?_
              refine a_astore_n cx dX2_lost_70 (Nat.le_of_ble_eq_true rfl) rfl ?_
              refine a_goto cx (tgt := 10) dX2_lost_71 (by decide) ?_
              have hgo := ih (k + 1) (nI k) h2 (by omega) (by omega) hs2 hit2
              rw [e1] at hgo
              refine AW.widen ?_ ?_ (AW.loc ?_ hgo)
              · omega
              · omega
              · exact ⟨rfl, rfl, rfl, trivial⟩
            · have e1 : (ol s (k + 1)).1 = some k := ol_t (by
                rw [hb.1, ← e43]
                by_cases y : 0 < s (45 + b) * farO s b
                · rw [(cw_ok (hWW b hbk)).1 y] at c62
                  exact Int32.not_le.mp c62
                · exact absurd hb.2 ((cw_ok (hWW b hbk)).2 y))
              refine a_aload_n cx dX2_lost_65 rfl ?_
              refine a_goto cx (tgt := 70) dX2_lost_66 (by decide) ?_
              refine a_astore_n cx dX2_lost_70 (Nat.le_of_ble_eq_true rfl) rfl ?_
              refine a_goto cx (tgt := 10) dX2_lost_71 (by decide) ?_
              have hgo := ih (k + 1) (nI k) h2 (by omega) (by omega) hs2 hit2
              rw [e1] at hgo
              refine AW.widen ?_ ?_ (AW.loc ?_ hgo)
              · omega
              · omega
              · exact ⟨rfl, rfl, rfl, trivial⟩
  exact loop (nS s + 1) 0 (-1) _ (Nat.zero_le _) (by omega) (sub.new n6) (hset_s _ _ _)
