/-! THE FIELD: more acts, 2 -/
set_option maxRecDepth 100000
abbrev rm_X2_without : Room := { frames := 0, cells := 0, slots := 0, locals := 0 }
set_option maxHeartbeats 4000000 in
theorem f2_without {lx : Launch} {g : GP} {h : AH} (htr : lx.stackTraces = false) {x u : Int32} : KT lx g yX2_without (ws_ yX2_without cX2_without 2 (some .int)) rm_X2_without 0 0 [.int x, .int u] h (isP (.int (wo x u)) h) (noX) := by
  refine KT.of (by decide +kernel) htr (Nat.le_of_ble_eq_true rfl) (L0 := [some (.int x), some (.int u)]) rfl ?_
  intro M cx hl9 hq hin hnx
  refine a_iload_n cx dX2_without_0 rfl ?_
  refine a_iload_n cx dX2_without_1 rfl ?_
  refine a_icmp_ne cx (tgt := 9) dX2_without_2 (by decide) (fun c2 => ?_) (fun c2 => ?_)
  · refine a_iload_n cx dX2_without_9 rfl ?_
    refine a_iload_n cx dX2_without_10 rfl ?_
    refine a_icmp_le cx (tgt := 20) dX2_without_11 (by decide) (fun c11 => ?_) (fun c11 => ?_)
    · refine a_iload_n cx dX2_without_20 rfl ?_
      exact a_iret cx hq dX2_without_21 ⟨by rw [wo, if_neg c2, if_neg (Int32.not_lt.mpr c11)], rfl⟩ (Nat.le_of_ble_eq_true rfl) (Nat.le_of_ble_eq_true rfl)
    · refine a_iload_n cx dX2_without_14 rfl ?_
      refine a_iconst cx (v := 1) dX2_without_15 (by decide) ?_
      refine a_isub cx dX2_without_16 ?_
      refine a_goto cx (tgt := 21) dX2_without_17 (by decide) ?_
      exact a_iret cx hq dX2_without_21 ⟨by rw [wo, if_neg c2, if_pos (Int32.not_le.mp c11)], rfl⟩ (Nat.le_of_ble_eq_true rfl) (Nat.le_of_ble_eq_true rfl)
  · refine a_iconst cx (v := -1) dX2_without_5 (by decide) ?_
    refine a_goto cx (tgt := 21) dX2_without_6 (by decide) ?_
    exact a_iret cx hq dX2_without_21 ⟨by rw [wo, if_pos c2], rfl⟩ (Nat.le_of_ble_eq_true rfl) (Nat.le_of_ble_eq_true rfl)
theorem strikesA_x {s : SF} {u : Int32} (h : isIx u (nH s) = false) : strikesA s u = (-1, 0, s) := if_neg (by rw [h]; decide)
theorem strikesA_k {s : SF} {i : Nat} (hi : i < nH s) (hm : nH s ≤ 6) : strikesA s (nI i) = (0, nI (cnt s (nI i) (nS s)), strikesS s i) := by
  unfold strikesA
  rw [if_pos ((isIx_iff (by omega)).mpr ⟨i, hi, rfl⟩), oN_nI (by omega)]
theorem strL1_q {s : SF} {j : Int32} {q : Nat} (h : q < 63 ∨ 81 ≤ q) : ∀ n, n ≤ 18 → strL1 s j n q = s q := by
  intro n
  induction n with
  | zero => intro _; rfl
  | succ n ih => intro hn; rw [strL1, upd_n (by omega), ih (by omega)]
theorem strL2_q {s : SF} {j : Int32} {q : Nat} (h : q < 6 ∨ 9 ≤ q) : ∀ n, n ≤ 3 → strL2 s j n q = s q := by
  intro n
  induction n with
  | zero => intro _; rfl
  | succ n ih => intro hn; rw [strL2, upd_n (by omega), ih (by omega)]
theorem strikesS_m {t s : SF} {i : Nat} (hi : i < nH s) (hm : nH s ≤ 6) (ht : t = strL2 (strL1 s (nI i) (nS s)) (nI i) 3) {b : Nat} (hb : b = 81 ∨ b = 87) {k : Nat} (hk : k < nH s - 1) : strikesS s i (b + k) = if k < i then t (b + k) else t (b + k + 1) := by
  subst ht
  unfold strikesS
  try dsimp only
  rw [upd_n (by omega), upd_n (by omega), upd_n (by omega), strL3_at hb _ _ (by omega) (by omega)]
  by_cases h : k < i
  · rw [if_pos h, if_neg (by omega)]
  · rw [if_neg h, if_pos (by omega)]
theorem strikesS_q {t s : SF} {i q : Nat} (hi : i < nH s) (hm : nH s ≤ 6) (ht : t = strL2 (strL1 s (nI i) (nS s)) (nI i) 3) (h1 : q ≠ 1) (hq : q < 81) : strikesS s i q = t q := by
  subst ht
  unfold strikesS
  try dsimp only
  rw [upd_n h1, upd_n (by omega), upd_n (by omega), strL3_n hq]
abbrev rm_X2_strike : Room := { frames := 16, cells := 10, slots := 40, locals := 320 }
set_option maxHeartbeats 4000000 in
theorem f2_strike {lx : Launch} {g : GP} {h : AH} (htr : lx.stackTraces = false) {hb : AH} {f a ea ca b eb cb d : Nat} {ma mb : Int32} {ls lh : List Nat} {s : SF} (hF : FA g hb h f s a ea ma ca b eb mb cb d ls lh) (hWF : WF s) {u : Int32} : KT lx g yX2_strike (ws_ yX2_strike cX2_strike 5 (some .int)) rm_X2_strike 10 40 [.ref f, .int u] h (PA g hb f (strikesA s u)) (XA g hb (strikesA s u) exIO) := by
  refine KT.of (by decide +kernel) htr (Nat.le_of_ble_eq_true rfl) (L0 := [some (.ref f), some (.int u), none, none, none]) rfl ?_
  intro M cx hl9 hq hin hnx
  have hR1 : rm_X2_strike.cells = 10 := rfl
  have hR2 : rm_X2_strike.slots = 40 := rfl
  refine AW.hk fun hk9 => ?_
  have hS := hWF.1
  have hP := hWF.2.2
  have hn := hS.2.1
  have hm := hS.2.2.2
  refine a_aload_n cx dX2_strike_0 rfl ?_
  refine a_iload_n cx dX2_strike_1 rfl ?_
  refine c_V cx (f2_checkHut cx.htr hF hn) (lw_V q1279 q1280 q1281 q78 q1282) dn_X2_checkHut (RN.of rfl rfl rfl rfl) rfl hF.o rfl rfl rfl (Nat.le_of_ble_eq_true rfl) dX2_strike_2 (by omega) (by omega) (fun v9 h hp9 => ?_) (fun E9 q9 h9 hx9 => AX.out cx hq hnx (XA.thr hF.ss hx9 (fun z => ⟨by rw [strikesA_x z]; exact m1_neg, by rw [strikesA_x z]; first | done | rfl | decide⟩)) (by omega) (by omega))
  obtain ⟨rfl, e2, kI⟩ := hp9
  rw [e2]
  obtain ⟨i, hi, ei⟩ := (isIx_iff (x := u) (n := nH s) (by omega)).mp kI
  subst ei
  refine a_aload_n cx dX2_strike_5 rfl ?_
  refine a_iload_n cx dX2_strike_6 rfl ?_
  refine c_V cx (f2_flock (f := f) (u := nI i) cx.htr) (lw_V q659 q660 q661 q78 q662) dn_X2_flock (RN.of rfl rfl rfl rfl) rfl hF.o rfl rfl rfl (Nat.le_of_ble_eq_true rfl) dX2_strike_7 (by omega) (by omega) (fun v9 h hp9 => ?_) (fun E9 q9 h9 hx9 => hx9.elim)
  obtain ⟨fl, rfl, nf, hBf, rfl⟩ := hp9
  have hF1 := hF.up (sub.new nf (e := flE (nI i) f))
  refine c_V cx (f10_count cx.htr hF1 hn (hset_s _ _ _)) (lw_V q796 q797 q798 q110 q799) dn_X10_count (RN.of rfl rfl rfl rfl) rfl (hset_s _ _ _) rfl rfl rfl (Nat.le_of_ble_eq_true rfl) dX2_strike_10 (by omega) (by omega) (pK ?_) (fun E9 q9 h9 hx9 => hx9.elim)
  refine AW.hm (sub.new nf) (fun _ => hk9) ?_
  refine a_istore_n cx dX2_strike_13 (Nat.le_of_ble_eq_true rfl) rfl ?_
  refine a_aload_n cx dX2_strike_14 rfl ?_
  refine a_get cx fl_X2_12.g dX2_strike_15 hF.o (by exact rfl) ?_
  refine c_V cx (j2_iterator cx.htr hF.la.1) (lw_V q298 q299 q300 q81 q301) dn_J2_iterator (RN.of rfl rfl rfl rfl) rfl hF.la.1 rfl rfl rfl (Nat.le_of_ble_eq_true rfl) dX2_strike_18 (by omega) (by omega) (fun v9 h hp9 => ?_) (fun E9 q9 h9 hx9 => hx9.elim)
  obtain ⟨it, n18, hB18, rfl, rfl⟩ := hp9
  have hit0 := ne_gs cx.hG hB18
  have nit := hF.ss.none n18
  have hY0 := hF.put (q := it) (e := itE 0 (-1) ma a) hit0 (Or.inr n18)
  refine a_astore_n cx dX2_strike_21 (Nat.le_of_ble_eq_true rfl) rfl ?_
  have loop : ∀ (j1 k : Nat) (last : Int32) (h3 : AH), k ≤ nS s → nS s < k + j1 → FA g (hset hb it (itE (nI k) last ma a)) h3 f (strL1 s (nI i) k) a ea ma ca b eb mb cb d ls lh → AW g M 10 40 22 [some (.ref f), some (.int (nI i)), some (.int (nI (cnt s (nI i) (nS s)))), some (.ref it), none] [] h3 := by
    intro j1
    induction j1 with
    | zero => intro k last h3 b1 b2; omega
    | succ j1 ih =>
      intro k last h3 z3 z4 hY
      have hit3 := hY.ss _ _ (hset_s _ _ _)
      have eS : nS (strL1 s (nI i) k) = nS s := nS_of (strL1_q (by omega) k (by omega))
      have eH : nH (strL1 s (nI i) k) = nH s := nH_of (strL1_q (by omega) k (by omega))
      refine a_aload_n cx dX2_strike_22 rfl ?_
      refine c_F cx (j8_hasNext cx.htr hit3 hY.la.1 (by have := hY.nl; omega) (by omega)) (lw_F q322 q333 q335 q88 q337) (by decide +kernel) ⟨by decide, by decide, by decide +kernel⟩ (RN.of rfl rfl rfl rfl) rfl hit3 rfl rfl rfl (Nat.le_of_ble_eq_true rfl) dX2_strike_23 (by omega) (by omega) (pK ?_) (fun E9 q9 h9 hx9 => hx9.elim)
      refine a_if_eq cx (tgt := 59) dX2_strike_28 (by decide) (fun c28 => ?_) (fun c28 => ?_)
      · have d1 : k = nS s := (bne_eq_false_iff_eq.mp ((bI_0 _).mp c28)).trans (hY.nl.trans eS)
        subst d1
        obtain ⟨t1, et1⟩ : ∃ z, z = strL1 s (nI i) (nS s) := ⟨_, rfl⟩
        rw [← et1] at hY eS eH
        have hZ0 : FA g hb h3 f (strL2 t1 (nI i) 0) a ea ma ca b eb mb cb d ls lh := hY.less (sub.new nit)
        refine a_iconst cx (v := 0) dX2_strike_59 (by decide) ?_
        refine a_istore_n cx dX2_strike_60 (Nat.le_of_ble_eq_true rfl) rfl ?_
        have loop2 : ∀ (j2 d1 : Nat) (h3 : AH), d1 ≤ 3 → 3 < d1 + j2 → FA g hb h3 f (strL2 t1 (nI i) d1) a ea ma ca b eb mb cb d ls lh → AW g M 10 40 61 [some (.ref f), some (.int (nI i)), some (.int (nI (cnt s (nI i) (nS s)))), some (.int (nI d1)), none] [] h3 := by
          intro j2
          induction j2 with
          | zero => intro d1 h3 b1 b2; omega
          | succ j2 ih2 =>
            intro d1 h3 z5 z6 hZ
            have eS2 : nS (strL2 t1 (nI i) d1) = nS t1 := nS_of (strL2_q (by omega) d1 (by omega))
            have eH2 : nH (strL2 t1 (nI i) d1) = nH t1 := nH_of (strL2_q (by omega) d1 (by omega))
            obtain ⟨fd, hfd, hfd2⟩ := hZ.dg
            refine a_iload_n cx dX2_strike_61 rfl ?_
            refine a_iconst cx (v := 3) dX2_strike_62 (by decide) ?_
            refine a_icmp_ge cx (tgt := 88) dX2_strike_63 (by decide) (fun c63 => ?_) (fun c63 => ?_)
            · have d63 : d1 = 3 := by have := le_nI (a := 3) c63 (by omega) (by omega); omega
              subst d63
              obtain ⟨t2, et2⟩ : ∃ z, z = strL2 t1 (nI i) 3 := ⟨_, rfl⟩
              rw [← et2] at hZ eS2 eH2
              refine AW.hk fun hk8 => ?_
              refine a_aload_n cx dX2_strike_88 rfl ?_
              refine a_get cx fl_X2_18.g dX2_strike_89 hZ.o (by exact rfl) ?_
              refine a_iload_n cx dX2_strike_92 rfl ?_
              refine c_V cx (j2_remove_2 (i := i) cx.htr hZ.lb (fun y hy => by obtain ⟨k2, hk2, e⟩ := gD_mem hy; rw [← e]; exact isOb_hu (hZ.hu (by rw [← hZ.nh]; exact hk2))) (fun hy => by obtain ⟨k2, hk2, e⟩ := gD_mem hy; have := hZ.hu (j := k2) (by rw [← hZ.nh]; exact hk2); rw [e, hZ.lb.1] at this; cases this) (by rw [hZ.nh]; omega)) (lw_V q1286 q1287 q1288 q81 q1289) dn_J2_remove_2 (RN.of rfl rfl rfl rfl) rfl hZ.lb.1 rfl rfl rfl (Nat.le_of_ble_eq_true rfl) dX2_strike_93 (by omega) (by omega) (fun v9 h hp9 => ?_) (fun E9 q9 h9 hx9 => hx9.elim)
              obtain ⟨rfl, hR⟩ := hp9
              have hA := strikesA_k (s := s) hi hm
              have hF3 := hZ.strikes (s' := strikesS s i) (by omega) hR hk8.2.2.1 (by omega) (by omega) (by rw [eH2, eH]; exact upd_s _ _ _) (fun k2 hk2 => ⟨strikesS_m hi hm (et2.trans (by rw [et1])) (by omega) (by omega), strikesS_m hi hm (et2.trans (by rw [et1])) (by omega) (by omega)⟩) (fun q h1 hq => strikesS_q hi hm (et2.trans (by rw [et1])) h1 hq)
              have hhu : (h : AH) (lh.getD i 0) = some (huE (t2 (81 + i)) (t2 (87 + i))) := (hR.2 _ (fun z => by have := hZ.hu (j := i) (by omega); rw [z, hZ.lb.1] at this; cases this) (fun z => by obtain ⟨fn, h9⟩ := hZ.lb.arr; have := hZ.hu (j := i) (by omega); rw [z, h9] at this; cases this)).trans (hZ.hu (by omega))
              refine a_castS (r := (RX5, TX5, 2)) cx q563 dX2_strike_96 hhu rfl ?_
              refine a_astore_n cx dX2_strike_99 (Nat.le_of_ble_eq_true rfl) rfl ?_
              refine a_iload_n cx dX2_strike_100 rfl ?_
              exact a_iret cx hq dX2_strike_101 ⟨by rw [hA], by rw [hA], by rw [hA]; exact hF3.w⟩ (by omega) (by omega)
            · have d63 : d1 < 3 := nle_nI (a := 3) c63 (by omega) (by omega)
              refine a_aload_n cx dX2_strike_66 rfl ?_
              refine a_get cx fl_X2_21.g dX2_strike_67 hZ.o (by exact rfl) ?_
              refine a_iload_n cx dX2_strike_70 rfl ?_
              refine a_aload_n cx dX2_strike_71 rfl ?_
              refine a_get cx fl_X2_21.g dX2_strike_72 hZ.o (by exact rfl) ?_
              refine a_iload_n cx dX2_strike_75 rfl ?_
              refine a_iald cx dX2_strike_76 hfd rfl (by omega) (by omega) ?_
              refine AW.topi (hfd2 d1 d63) ?_
              refine a_iload_n cx dX2_strike_77 rfl ?_
              refine c_S cx (f2_without cx.htr) (lw_S q1283 q1284 q78 q1285) dn_X2_without (RN.of rfl rfl rfl rfl) rfl rfl (Nat.le_of_ble_eq_true rfl) dX2_strike_78 (by omega) (by omega) (pK ?_) (fun E9 q9 h9 hx9 => hx9.elim)
              refine a_iast cx dX2_strike_81 hfd rfl (by omega) (by omega) ?_
              have hZ4 : FA g hb _ f (strL2 t1 (nI i) (d1 + 1)) a ea ma ca b eb mb cb d ls lh := hZ.dog d63 hfd hfd2
              refine a_iincN cx dX2_strike_82 rfl (Nat.le_of_ble_eq_true rfl) rfl ?_
              refine a_goto cx (tgt := 61) dX2_strike_85 (by decide) ?_
              refine AW.widen ?_ ?_ (AW.loc ?_ (ih2 (d1 + 1) _ (by omega) (by omega) hZ4))
              · omega
              · omega
              · exact ⟨rfl, rfl, rfl, rfl, trivial⟩
        exact AW.widen (by omega) (by omega) (AW.loc (show lle [some (.ref f), some (.int (nI i)), some (.int (nI (cnt s (nI i) (nS s)))), some (.int (nI 0)), none] _ from ⟨rfl, rfl, rfl, rfl, trivial⟩) (loop2 4 0 _ (Nat.zero_le _) (by omega) hZ0))
      · have d1 : k < nS s := by have q := bne_iff_ne.mp (bI_n0 c28); have := hY.nl; omega
        refine a_aload_n cx dX2_strike_31 rfl ?_
        refine c_F cx (j8_next cx.htr hit3 hY.la (by rw [hY.nl, eS]; exact d1)) (lw_F q339 q445 q447 q88 q449) (by decide +kernel) ⟨by decide, by decide, by decide +kernel⟩ (RN.of rfl rfl rfl rfl) rfl hit3 rfl rfl rfl (Nat.le_of_ble_eq_true rfl) dX2_strike_32 (by omega) (by omega) (pK ?_) (fun E9 q9 h9 hx9 => hx9.elim)
        have hY2 := hY.put (e := itE (nI (k + 1)) (nI k) ma a) hit0 (Or.inl ⟨_, hset_s _ _ _⟩)
        rw [hset_hset] at hY2
        obtain ⟨h4, eh4⟩ : ∃ z, z = hset h3 it (itE (nI (k + 1)) (nI k) ma a) := ⟨_, rfl⟩
        rw [← eh4]
        rw [← eh4] at hY2
        have d1' : k < nS (strL1 s (nI i) k) := by rw [eS]; exact d1
        have hsh := hY2.sh d1'
        refine a_castS (r := (RX4, TX4, 4)) cx q456 dX2_strike_37 hsh rfl ?_
        refine a_astore cx dX2_strike_40 (Nat.le_of_ble_eq_true rfl) rfl ?_
        refine a_aload cx dX2_strike_42 rfl ?_
        refine a_aload cx dX2_strike_44 rfl ?_
        refine a_get cx fl_X2_107.g dX2_strike_46 hsh (by exact rfl) ?_
        refine a_iload_n cx dX2_strike_49 rfl ?_
        refine c_S cx (f2_without cx.htr) (lw_S q1283 q1284 q78 q1285) dn_X2_without (RN.of rfl rfl rfl rfl) rfl rfl (Nat.le_of_ble_eq_true rfl) dX2_strike_50 (by omega) (by omega) (pK ?_) (fun E9 q9 h9 hx9 => hx9.elim)
        refine a_put cx fl_X2_107 dX2_strike_53 hsh rfl rfl (by exact (Nat.le_of_ble_eq_true rfl)) ?_
        have hY4 := hY2.sheep (s' := strL1 s (nI i) (k + 1)) d1' (by omega) (fun q _ _ _ h4 => upd_n h4)
        rw [show strL1 s (nI i) (k + 1) (9 + k) = strL1 s (nI i) k (9 + k) from upd_n (by omega), show strL1 s (nI i) (k + 1) (27 + k) = strL1 s (nI i) k (27 + k) from upd_n (by omega), show strL1 s (nI i) (k + 1) (45 + k) = strL1 s (nI i) k (45 + k) from upd_n (by omega), show strL1 s (nI i) (k + 1) (63 + k) = wo (strL1 s (nI i) k (63 + k)) (nI i) from upd_s _ _ _] at hY4
        refine a_goto cx (tgt := 22) dX2_strike_56 (by decide) ?_
        refine AW.widen ?_ ?_ (AW.loc ?_ (ih (k + 1) (nI k) _ (by omega) (by omega) hY4))
        · omega
        · omega
        · exact ⟨rfl, rfl, rfl, rfl, trivial⟩
  exact AW.widen (by omega) (by omega) (loop (nS s + 1) 0 (-1) _ (Nat.zero_le _) (by omega) hY0)
