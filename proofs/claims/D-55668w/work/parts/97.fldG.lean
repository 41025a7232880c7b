/-! THE FIELD: more acts, 3 -/
set_option maxRecDepth 100000
theorem movesA_x {s : SF} {u x y : Int32} (h : isIx u (nH s) = false) : movesA s u x y = (-1, 0, s) := if_neg (by rw [h]; decide)
theorem movesA_p {s : SF} {i : Nat} {x y : Int32} (hi : i < nH s) (hm : nH s ≤ 6) (h : ¬ (inP x = true ∧ inP y = true)) : movesA s (nI i) x y = (-2, 0, s) := by
  unfold movesA
  rw [if_pos ((isIx_iff (by omega)).mpr ⟨i, hi, rfl⟩), if_neg h]
theorem movesA_t {s : SF} {i : Nat} {x y : Int32} {j : Nat} (hi : i < nH s) (hm : nH s ≤ 6) (h1 : inP x = true) (h2 : inP y = true) (h : hutAt s x y = some j) : movesA s (nI i) x y = (2, nI j, s) := by
  unfold movesA
  rw [if_pos ((isIx_iff (by omega)).mpr ⟨i, hi, rfl⟩), if_pos ⟨h1, h2⟩, h]
theorem movesA_k {s : SF} {i : Nat} {x y : Int32} (hi : i < nH s) (hm : nH s ≤ 6) (h1 : inP x = true) (h2 : inP y = true) (h : hutAt s x y = none) : movesA s (nI i) x y = (0, fTo s x y i, upd (upd s (81 + i) x) (87 + i) y) := by
  unfold movesA
  rw [if_pos ((isIx_iff (by omega)).mpr ⟨i, hi, rfl⟩), if_pos ⟨h1, h2⟩, h, oN_nI (by omega)]
abbrev rm_X2_move : Room := { frames := 16, cells := 10, slots := 60, locals := 340 }
set_option maxHeartbeats 4000000 in
theorem f2_move {lx : Launch} {g : GP} {h : AH} (htr : lx.stackTraces = false) {hb : AH} {f a ea ca b eb cb d : Nat} {ma mb : Int32} {ls lh : List Nat} {s : SF} (hF : FA g hb h f s a ea ma ca b eb mb cb d ls lh) (hWF : WF s) {u x y : Int32} : KT lx g yX2_move (ws_ yX2_move cX2_move 7 (some .int)) rm_X2_move 10 60 [.ref f, .int u, .int x, .int y] h (PA g hb f (movesA s u x y)) (XA g hb (movesA s u x y) exMv) := by
  refine KT.of (by decide +kernel) htr (Nat.le_of_ble_eq_true rfl) (L0 := [some (.ref f), some (.int u), some (.int x), some (.int y), none, none, none]) rfl ?_
  intro M cx hl9 hq hin hnx
  have hR1 : rm_X2_move.cells = 10 := rfl
  have hR2 : rm_X2_move.slots = 60 := rfl
  refine AW.hk fun hk9 => ?_
  have hS := hWF.1
  have hP := hWF.2.2
  have hn := hS.2.1
  have hm := hS.2.2.2
  refine a_aload_n cx dX2_move_0 rfl ?_
  refine a_iload_n cx dX2_move_1 rfl ?_
  refine c_V cx (f2_checkHut cx.htr hF hn) (lw_V q1279 q1280 q1281 q78 q1282) dn_X2_checkHut (RN.of rfl rfl rfl rfl) rfl hF.o rfl rfl rfl (Nat.le_of_ble_eq_true rfl) dX2_move_2 (by omega) (by omega) (fun v9 h hp9 => ?_) (fun E9 q9 h9 hx9 => AX.out cx hq hnx (XA.thr hF.ss hx9 (fun z => ⟨by rw [movesA_x z]; exact m1_neg, by rw [movesA_x z]; first | done | rfl | decide⟩)) (by omega) (by omega))
  obtain ⟨rfl, e2, kI⟩ := hp9
  rw [e2]
  obtain ⟨i, hi, ei⟩ := (isIx_iff (x := u) (n := nH s) (by omega)).mp kI
  subst ei
  refine a_iconst cx (v := 2) dX2_move_5 (by decide) ?_
  refine a_newaI cx dX2_move_6 (show (2 : Int32) = nI 2 from rfl) (by decide) (by omega) (by omega) (fun p n6 hB6 => ?_)
  have hF1 := hF.up (sub.new n6 (e := eI (g.2.1 0) 2 (fun _ => 0)))
  refine a_dup cx dX2_move_8 rfl ?_
  refine a_iconst cx (v := 0) dX2_move_9 (by decide) ?_
  refine a_iload_n cx dX2_move_10 rfl ?_
  refine a_iast cx dX2_move_11 (hset_s _ _ _) (show (0 : Int32) = nI 0 from rfl) (by omega) (by omega) ?_
  rw [hset_hset]
  refine a_dup cx dX2_move_12 rfl ?_
  refine a_iconst cx (v := 1) dX2_move_13 (by decide) ?_
  refine a_iload_n cx dX2_move_14 rfl ?_
  refine a_iast cx dX2_move_15 (hset_s _ _ _) (show (1 : Int32) = nI 1 from rfl) (by omega) (by omega) ?_
  rw [hset_hset]
  refine c_SN cx (f1_checkPlaces cx.htr (hset_s _ _ _)) (lw_meth q1156) q77 q1154 q1155 dn_X1_checkPlaces (RN.of rfl rfl rfl rfl) rfl rfl (Nat.le_of_ble_eq_true rfl) dX2_move_16 (by omega) (by omega) (fun v9 h hp9 => ?_) (fun E9 q9 h9 hx9 => AX.out cx hq hnx (XA.thr (hF.ss.tr (sub.new n6)) hx9 (fun z => ⟨by rw [movesA_p (x := x) (y := y) hi hm z]; exact m2_neg, by rw [movesA_p (x := x) (y := y) hi hm z]; first | done | rfl | decide⟩)) (by omega) (by omega))
  obtain ⟨rfl, e16, kx, ky⟩ := hp9
  rw [e16]
  replace kx : inP x = true := kx
  replace ky : inP y = true := ky
  refine AW.hm (sub.new n6) (fun _ => hk9) ?_
  refine a_iload_n cx dX2_move_19 rfl ?_
  refine a_iload_n cx dX2_move_20 rfl ?_
  refine c_S cx (f8_at cx.htr) (lw_S q1205 q712 q107 q713) dn_X8_at (RN.of rfl rfl rfl rfl) rfl rfl (Nat.le_of_ble_eq_true rfl) dX2_move_21 (by omega) (by omega) (fun v9 h hp9 => ?_) (fun E9 q9 h9 hx9 => hx9.elim)
  obtain ⟨q9, nq, hBq, rfl, rfl⟩ := hp9
  have hF1 := hF.up (sub.new nq (e := plE x y))
  refine a_astore cx dX2_move_24 (Nat.le_of_ble_eq_true rfl) rfl ?_
  refine a_aload_n cx dX2_move_26 rfl ?_
  refine a_aload cx dX2_move_27 rfl ?_
  refine c_V cx (f2_checkFree cx.htr hF1 hn hm hP (inP_PL kx) (inP_PL ky) (hset_s _ _ _)) (lw_V q1206 q1208 qs9 q78 q1209) dn_X2_checkFree (RN.of rfl rfl rfl rfl) rfl hF1.o rfl rfl rfl (Nat.le_of_ble_eq_true rfl) dX2_move_29 (by omega) (by omega) (fun v9 h hp9 => ?_) (fun E9 q9 h9 hx9 => AX.out cx hq hnx (hx9.elim fun j z => XA.ref hF1.ss z.2 (fun _ => by rw [movesA_t hi hm kx ky z.1]; exact ⟨rfl, rfl⟩) (by decide)) (by omega) (by omega))
  obtain ⟨rfl, e29, hat⟩ := hp9
  rw [e29]
  refine a_aload_n cx dX2_move_32 rfl ?_
  refine a_get cx fl_X2_18.g dX2_move_33 hF1.o (by exact rfl) ?_
  refine a_iload_n cx dX2_move_36 rfl ?_
  refine c_V cx (j2_get (i := i) cx.htr hF1.lb (by rw [hF1.nh]; exact hi)) (lw_V q639 q426 q427 q81 q428) dn_J2_get (RN.of rfl rfl rfl rfl) rfl hF1.lb.1 rfl rfl rfl (Nat.le_of_ble_eq_true rfl) dX2_move_37 (by omega) (by omega) (pK ?_) (fun E9 q9 h9 hx9 => hx9.elim)
  refine a_castS (r := (RX5, TX5, 2)) cx q563 dX2_move_40 (hF1.hu hi) rfl ?_
  refine a_astore cx dX2_move_43 (Nat.le_of_ble_eq_true rfl) rfl ?_
  refine a_aload cx dX2_move_45 rfl ?_
  refine a_aload cx dX2_move_47 rfl ?_
  refine c_VD (na := 1) cx (f8_distancehp (w1 := 0) (u1 := 0) (w2 := 0) (u2 := 0) cx.htr (hF1.hu hi) (hset_s _ _ _)) (lw_meth q648) (List.mem_of_getElem? (i := 7) rfl) (List.mem_of_getElem? (i := 8) rfl) q644 q646 q107 (by decide +kernel) (RN.of rfl rfl rfl rfl) rfl (by decide +kernel) (hF1.hu hi) rfl rfl rfl (Nat.le_of_ble_eq_true rfl) dX2_move_49 (by omega) (by omega) (pK ?_)
  refine AW.topi (show _ = fTo s x y i by unfold fTo; grind) ?_
  refine a_istore cx dX2_move_52 (Nat.le_of_ble_eq_true rfl) rfl ?_
  refine a_aload cx dX2_move_54 rfl ?_
  refine a_aload cx dX2_move_56 rfl ?_
  refine c_V cx (f5_gop (w := 0) (u := 0) cx.htr (hF1.hu hi) (hset_s _ _ _) (fun z => by have := hF.hu hi; rw [← z, nq] at this; cases this)) (lw_V q727 q570 q571 q100 q572) dn_X5_go (RN.of rfl rfl rfl rfl) rfl (hF1.hu hi) rfl rfl rfl (Nat.le_of_ble_eq_true rfl) dX2_move_58 (by omega) (by omega) (pV ?_) (fun E9 q9 h9 hx9 => hx9.elim)
  have hA := movesA_k (s := s) hi hm kx ky hat
  have hF3 := hF1.hut (s' := upd (upd s (81 + i) x) (87 + i) y) hi hm hn (fun q h1 h2 => by rw [upd_n h2, upd_n h1])
  rw [upd_n (show 81 + i ≠ 87 + i by omega), upd_s, upd_s] at hF3
  refine a_iload cx dX2_move_61 rfl ?_
  exact a_iret cx hq dX2_move_63 ⟨by rw [hA], by rw [hA], by rw [hA]; exact hF3.w⟩ (by omega) (by omega)
theorem inR_ix {j : Int32} {n : Nat} (hn : n ≤ 6) : inR j (-1) (nI n - 1) = true ↔ (isIx j n = true ∨ j = -1) := by
  unfold isIx
  rw [inR_iff, inR_iff]
  constructor
  · rintro ⟨h1, h2⟩
    by_cases h : j = -1
    · exact Or.inr h
    · refine Or.inl ⟨?_, h2⟩
      rw [Int32.le_iff_toInt_le] at *
      have e1 : (-1 : Int32).toInt = -1 := by decide
      have e2 : j.toInt ≠ -1 := fun z => h (Int32.toInt_inj.mp (z.trans e1.symm))
      rw [Int32.toInt_zero]
      omega
  · rintro (⟨h1, h2⟩ | h)
    · refine ⟨?_, h2⟩
      rw [Int32.le_iff_toInt_le] at *
      have e1 : (-1 : Int32).toInt = -1 := by decide
      rw [Int32.toInt_zero] at h1
      omega
    · subst h
      refine ⟨Int32.le_refl _, ?_⟩
      rw [Int32.le_iff_toInt_le, show nI n - 1 = nI n - nI 1 from rfl, pk_sub_toInt (by omega) (by omega)]
      have e1 : (-1 : Int32).toInt = -1 := by decide
      omega
theorem sendsA_x {s : SF} {d j : Int32} (h : ¬ (inR d 0 2 = true ∧ (isIx j (nH s) = true ∨ j = -1))) : sendsA s d j = (-1, 0, s) := if_neg h
theorem sendsA_k {s : SF} {j : Int32} {d : Nat} (hd : d < 3) (h1 : inR (nI d) 0 2 = true) (h : isIx j (nH s) = true ∨ j = -1) : sendsA s (nI d) j = if s (6 + d) = j then (7, j, s) else (0, s (6 + d), upd s (6 + d) j) := by
  unfold sendsA
  rw [if_pos ⟨h1, h⟩, oN_nI (by omega)]
abbrev rm_X2_dog : Room := { frames := 14, cells := 6, slots := 60, locals := 300 }
set_option maxHeartbeats 4000000 in
theorem f2_dog {lx : Launch} {g : GP} {h : AH} (htr : lx.stackTraces = false) {hb : AH} {f a ea ca b eb cb d : Nat} {ma mb : Int32} {ls lh : List Nat} {s : SF} (hF : FA g hb h f s a ea ma ca b eb mb cb d ls lh) (hWF : WF s) {u j : Int32} : KT lx g yX2_dog (ws_ yX2_dog cX2_dog 4 (some .int)) rm_X2_dog 6 60 [.ref f, .int u, .int j] h (PA g hb f (sendsA s u j)) (XA g hb (sendsA s u j) exIO) := by
  refine KT.of (by decide +kernel) htr (Nat.le_of_ble_eq_true rfl) (L0 := [some (.ref f), some (.int u), some (.int j), none]) rfl ?_
  intro M cx hl9 hq hin hnx
  have hR1 : rm_X2_dog.cells = 6 := rfl
  have hR2 : rm_X2_dog.slots = 60 := rfl
  refine AW.hk fun hk9 => ?_
  have hS := hWF.1
  have hP := hWF.2.2
  have hn := hS.2.1
  have hm := hS.2.2.2
  refine a_aload_n cx dX2_dog_0 rfl ?_
  refine a_iload_n cx dX2_dog_1 rfl ?_
  refine c_V cx (f2_checkDog cx.htr) (lw_V q1315 q1316 q1317 q78 q1318) dn_X2_checkDog (RN.of rfl rfl rfl rfl) rfl hF.o rfl rfl rfl (Nat.le_of_ble_eq_true rfl) dX2_dog_2 (by omega) (by omega) (fun v9 h hp9 => ?_) (fun E9 q9 h9 hx9 => AX.out cx hq hnx (XA.thr hF.ss hx9 (fun z => ⟨by rw [sendsA_x (fun y => by rw [z] at y; cases y.1)]; exact m1_neg, by rw [sendsA_x (fun y => by rw [z] at y; cases y.1)]; first | done | rfl | decide⟩)) (by omega) (by omega))
  obtain ⟨rfl, e2, kD⟩ := hp9
  rw [e2]
  obtain ⟨d1, hd1, ed1⟩ := dog3 kD
  subst ed1
  obtain ⟨fd, hfd, hfd2⟩ := hF.dg
  refine a_iload_n cx dX2_dog_5 rfl ?_
  refine a_i2l cx dX2_dog_6 rfl ?_
  refine a_ldc2 cx q792 dX2_dog_7 ?_
  refine a_aload_n cx dX2_dog_10 rfl ?_
  refine a_get cx fl_X2_18.g dX2_dog_11 hF.o (by exact rfl) ?_
  refine c_V cx (j2_size cx.htr hF.lb.1) (lw_V q638 q274 q275 q81 q276) dn_J2_size (RN.of rfl rfl rfl rfl) rfl hF.lb.1 rfl rfl rfl (Nat.le_of_ble_eq_true rfl) dX2_dog_14 (by omega) (by omega) (pK ?_) (fun E9 q9 h9 hx9 => hx9.elim)
  refine AW.topi (congrArg nI hF.nh) ?_
  refine a_iconst cx (v := 1) dX2_dog_17 (by decide) ?_
  refine a_isub cx dX2_dog_18 ?_
  refine a_i2l cx dX2_dog_19 rfl ?_
  refine c_SN cx (f1_inRange (x := j) (y := -1) (z := nI (nH s) - 1) cx.htr) (lw_meth q795) q77 q793 q794 dn_X1_inRange (RN.of rfl rfl rfl rfl) rfl rfl (Nat.le_of_ble_eq_true rfl) dX2_dog_20 (by omega) (by omega) (pK ?_) (fun E9 q9 h9 hx9 => hx9.elim)
  refine c_SN cx (f1_checkIndex cx.htr) (lw_meth q1224) q77 q1222 q1223 dn_X1_checkIndex (RN.of rfl rfl rfl rfl) rfl rfl (Nat.le_of_ble_eq_true rfl) dX2_dog_23 (by omega) (by omega) (fun v9 h hp9 => ?_) (fun E9 q9 h9 hx9 => AX.out cx hq hnx (XA.thr hF.ss hx9 (fun z => ⟨by rw [sendsA_x (fun y => by rw [inR_ix hm |>.mpr y.2] at z; exact absurd z (by decide))]; exact m1_neg, by rw [sendsA_x (fun y => by rw [inR_ix hm |>.mpr y.2] at z; exact absurd z (by decide))]; first | done | rfl | decide⟩)) (by omega) (by omega))
  obtain ⟨rfl, e23, ck23⟩ := hp9
  rw [e23]
  have hA := sendsA_k (s := s) (j := j) hd1 kD ((inR_ix hm).mp (bI_n0 ck23))
  refine a_aload_n cx dX2_dog_26 rfl ?_
  refine a_get cx fl_X2_21.g dX2_dog_27 hF.o (by exact rfl) ?_
  refine a_iload_n cx dX2_dog_30 rfl ?_
  refine a_iald cx dX2_dog_31 hfd rfl (by omega) (by omega) ?_
  refine AW.topi (hfd2 d1 hd1) ?_
  refine a_istore_n cx dX2_dog_32 (Nat.le_of_ble_eq_true rfl) rfl ?_
  refine a_iload_n cx dX2_dog_33 rfl ?_
  refine a_iload_n cx dX2_dog_34 rfl ?_
  refine a_icmp_eq cx (tgt := 42) dX2_dog_35 (by decide) (fun c35 => ?_) (fun c35 => ?_)
  · rw [if_pos c35] at hA
    refine a_iconst cx (v := 0) dX2_dog_42 (by decide) ?_
    refine a_bipush cx (v := 7) dX2_dog_43 (by decide) ?_
    refine a_iload_n cx dX2_dog_45 rfl ?_
    refine c_S cx (f7_check (r := 7) (d := s (6 + d1)) cx.htr) (lw_S q1169 q1170 q106 q1171) dn_X7_check (RN.of rfl rfl rfl rfl) rfl rfl (Nat.le_of_ble_eq_true rfl) dX2_dog_46 (by omega) (by omega) (fun v9 h hp9 => ?_) (fun E9 q9 h9 hx9 => AX.out cx hq hnx (XA.ref hF.ss hx9 (fun _ => by rw [hA]; exact ⟨rfl, c35.symm⟩) (by decide)) (by omega) (by omega))
    obtain ⟨rfl, e46, ck46⟩ := hp9
    exact absurd rfl ck46
  · rw [if_neg c35] at hA
    refine a_iconst cx (v := 1) dX2_dog_38 (by decide) ?_
    refine a_goto cx (tgt := 43) dX2_dog_39 (by decide) ?_
    refine a_bipush cx (v := 7) dX2_dog_43 (by decide) ?_
    refine a_iload_n cx dX2_dog_45 rfl ?_
    refine c_S cx (f7_check (r := 7) (d := s (6 + d1)) cx.htr) (lw_S q1169 q1170 q106 q1171) dn_X7_check (RN.of rfl rfl rfl rfl) rfl rfl (Nat.le_of_ble_eq_true rfl) dX2_dog_46 (by omega) (by omega) (fun v9 h hp9 => ?_) (fun E9 q9 h9 hx9 => (absurd hx9.2.2.2.2 (by decide)))
    obtain ⟨rfl, e46, ck46⟩ := hp9
    rw [e46]
    refine a_aload_n cx dX2_dog_49 rfl ?_
    refine a_get cx fl_X2_21.g dX2_dog_50 hF.o (by exact rfl) ?_
    refine a_iload_n cx dX2_dog_53 rfl ?_
    refine a_iload_n cx dX2_dog_54 rfl ?_
    refine a_iast cx dX2_dog_55 hfd rfl (by omega) (by omega) ?_
    have hF3 : FA g hb _ f (upd s (6 + d1) j) a ea ma ca b eb mb cb d ls lh := hF.dog hd1 hfd hfd2
    refine a_iload_n cx dX2_dog_56 rfl ?_
    exact a_iret cx hq dX2_dog_57 ⟨by rw [hA], by rw [hA], by rw [hA]; exact hF3.w⟩ (by omega) (by omega)
abbrev rm_X2_checkRounds : Room := { frames := 5, cells := 1, slots := 8, locals := 112 }
set_option maxHeartbeats 4000000 in
theorem f2_checkRounds {lx : Launch} {g : GP} {h : AH} (htr : lx.stackTraces = false) {hb : AH} {f a ea ca b eb cb d : Nat} {ma mb : Int32} {ls lh : List Nat} {s : SF} (hF : FA g hb h f s a ea ma ca b eb mb cb d ls lh) (hn : nS s ≤ 18) (hm : nH s ≤ 6) : KT lx g yX2_checkRounds (ws_ yX2_checkRounds cX2_checkRounds 1 none) rm_X2_checkRounds 1 8 [.ref f] h (fun v h' => v = none ∧ h' = h ∧ ¬ nH s = 0) (xR g 3 (nI (nS s)) (nH s = 0) h) := by
  refine KT.of (by decide +kernel) htr (Nat.le_of_ble_eq_true rfl) (L0 := [some (.ref f)]) rfl ?_
  intro M cx hl9 hq hin hnx
  refine a_aload_n cx dX2_checkRounds_0 rfl ?_
  refine a_get cx fl_X2_18.g dX2_checkRounds_1 hF.o (by exact rfl) ?_
  refine c_V cx (j2_isEmpty cx.htr hF.lb.1 (by have := hF.nh; omega)) (lw_V q626 q627 q628 q81 q629) dn_J2_isEmpty (RN.of rfl rfl rfl rfl) rfl hF.lb.1 rfl rfl rfl (Nat.le_of_ble_eq_true rfl) dX2_checkRounds_4 (Nat.le_of_ble_eq_true rfl) (Nat.le_of_ble_eq_true rfl) (pK ?_) (fun E9 q9 h9 hx9 => hx9.elim)
  refine AW.topi (show _ = bI (nH s == 0) by rw [hF.nh]) ?_
  refine a_if_ne cx (tgt := 14) dX2_checkRounds_7 (by decide) (fun c7 => ?_) (fun c7 => ?_)
  · have e0 : nH s = 0 := beq_iff_eq.mp (bI_n0 c7)
    refine a_iconst cx (v := 0) dX2_checkRounds_14 (by decide) ?_
    refine a_iconst cx (v := 3) dX2_checkRounds_15 (by decide) ?_
    refine a_aload_n cx dX2_checkRounds_16 rfl ?_
    refine a_get cx fl_X2_12.g dX2_checkRounds_17 hF.o (by exact rfl) ?_
    refine c_V cx (j2_size cx.htr hF.la.1) (lw_V q638 q274 q275 q81 q276) dn_J2_size (RN.of rfl rfl rfl rfl) rfl hF.la.1 rfl rfl rfl (Nat.le_of_ble_eq_true rfl) dX2_checkRounds_20 (Nat.le_of_ble_eq_true rfl) (Nat.le_of_ble_eq_true rfl) (pK ?_) (fun E9 q9 h9 hx9 => hx9.elim)
    refine AW.topi (congrArg nI hF.nl) ?_
    refine c_S cx (f7_check (r := 3) (d := nI (nS s)) cx.htr) (lw_S q1169 q1170 q106 q1171) dn_X7_check (RN.of rfl rfl rfl rfl) rfl rfl (Nat.le_of_ble_eq_true rfl) dX2_checkRounds_23 (Nat.le_of_ble_eq_true rfl) (Nat.le_of_ble_eq_true rfl) (fun v9 h hp9 => ?_) (fun E9 q9 h9 hx9 => AX.out cx hq hnx ⟨hx9.1, hx9.2.1, hx9.2.2.1, hx9.2.2.2.1, e0⟩ (Nat.le_of_ble_eq_true rfl) (Nat.le_of_ble_eq_true rfl))
    obtain ⟨rfl, e23, ck23⟩ := hp9
    exact absurd rfl ck23
  · have e0 : ¬ nH s = 0 := fun z => by have := (bI_0 _).mp c7; rw [z] at this; cases this
    refine a_iconst cx (v := 1) dX2_checkRounds_10 (by decide) ?_
    refine a_goto cx (tgt := 15) dX2_checkRounds_11 (by decide) ?_
    refine a_iconst cx (v := 3) dX2_checkRounds_15 (by decide) ?_
    refine a_aload_n cx dX2_checkRounds_16 rfl ?_
    refine a_get cx fl_X2_12.g dX2_checkRounds_17 hF.o (by exact rfl) ?_
    refine c_V cx (j2_size cx.htr hF.la.1) (lw_V q638 q274 q275 q81 q276) dn_J2_size (RN.of rfl rfl rfl rfl) rfl hF.la.1 rfl rfl rfl (Nat.le_of_ble_eq_true rfl) dX2_checkRounds_20 (Nat.le_of_ble_eq_true rfl) (Nat.le_of_ble_eq_true rfl) (pK ?_) (fun E9 q9 h9 hx9 => hx9.elim)
    refine AW.topi (congrArg nI hF.nl) ?_
    refine c_S cx (f7_check (r := 3) (d := nI (nS s)) cx.htr) (lw_S q1169 q1170 q106 q1171) dn_X7_check (RN.of rfl rfl rfl rfl) rfl rfl (Nat.le_of_ble_eq_true rfl) dX2_checkRounds_23 (Nat.le_of_ble_eq_true rfl) (Nat.le_of_ble_eq_true rfl) (fun v9 h hp9 => ?_) (fun E9 q9 h9 hx9 => (absurd hx9.2.2.2.2 (by decide)))
    obtain ⟨rfl, e23, ck23⟩ := hp9
    rw [e23]
    exact a_vret cx hq dX2_checkRounds_26 ⟨rfl, rfl, e0⟩ (Nat.le_of_ble_eq_true rfl) (Nat.le_of_ble_eq_true rfl)
theorem roundsA_k {s : SF} (h : ¬ nH s = 0) : roundsA s = (0, nI (mvd s (ground s) (nH s)), ground s) := if_neg h
theorem roundsA_x {s : SF} (h : nH s = 0) : roundsA s = (3, nI (nS s), s) := if_pos h
theorem settlesA_x {s : SF} {m : Int32} (h : inR m 1 30 = false) : settlesA s m = (-1, 0, s) := if_neg (by rw [h]; decide)
theorem settlesA_h {s : SF} {m : Int32} (h : inR m 1 30 = true) (h0 : nH s = 0) : settlesA s m = (3, nI (nS s), s) := by unfold settlesA; rw [if_pos h, if_pos h0]
theorem settlesA_s {s : SF} {m : Int32} (h : inR m 1 30 = true) (h0 : ¬ nH s = 0) (hs : still s = true) : settlesA s m = (4, s 2, s) := by unfold settlesA; rw [if_pos h, if_neg h0, if_pos hs]
theorem settlesA_k {s : SF} {m : Nat} (h : inR (nI m) 1 30 = true) (hm : m ≤ 30) (h0 : ¬ nH s = 0) (hs : ¬ still s = true) : settlesA s (nI m) = (0, nI (toStill s m), rnds s (toStill s m)) := by unfold settlesA; rw [if_pos h, if_neg h0, if_neg hs, oN_nI (by omega)]
theorem inR_30 {m : Int32} (h : inR m 1 30 = true) : ∃ a : Nat, a ≤ 30 ∧ m = nI a := by
  obtain ⟨h1, h2⟩ := (inR_iff _ _ _).mp h
  refine nI_of2 (M := 30) (n := 30) (by decide) (fun z => ?_) h2
  rw [Int32.lt_iff_toInt_lt, Int32.toInt_zero] at z
  rw [Int32.le_iff_toInt_le] at h1
  have e1 : (1 : Int32).toInt = 1 := by decide
  omega
abbrev rm_X2_round : Room := { frames := 20, cells := 80, slots := 780, locals := 480 }
set_option maxHeartbeats 4000000 in
theorem f2_round {lx : Launch} {g : GP} {h : AH} (htr : lx.stackTraces = false) {hb : AH} {f a ea ca b eb cb d : Nat} {ma mb : Int32} {ls lh : List Nat} {s : SF} (hF : FA g hb h f s a ea ma ca b eb mb cb d ls lh) (hWF : WF s) : KT lx g yX2_round (ws_ yX2_round cX2_round 1 (some .int)) rm_X2_round 80 780 [.ref f] h (PA g hb f (roundsA s)) (XA g hb (roundsA s) exIA) := by
  refine KT.of (by decide +kernel) htr (Nat.le_of_ble_eq_true rfl) (L0 := [some (.ref f)]) rfl ?_
  intro M cx hl9 hq hin hnx
  have hR1 : rm_X2_round.cells = 80 := rfl
  have hR2 : rm_X2_round.slots = 780 := rfl
  refine AW.hk fun hk9 => ?_
  have hS := hWF.1
  have hP := hWF.2.2
  have hn := hS.2.1
  have hm := hS.2.2.2
  refine a_aload_n cx dX2_round_0 rfl ?_
  refine c_V cx (f2_checkRounds cx.htr hF hn hm) (lw_V q1302 q1304 qs12 q78 q1305) dn_X2_checkRounds (RN.of rfl rfl rfl rfl) rfl hF.o rfl rfl rfl (Nat.le_of_ble_eq_true rfl) dX2_round_1 (by omega) (by omega) (fun v9 h hp9 => ?_) (fun E9 q9 h9 hx9 => AX.out cx hq hnx (XA.ref hF.ss hx9 (fun z => by rw [roundsA_x z]; exact ⟨rfl, rfl⟩) (by decide)) (by omega) (by omega))
  obtain ⟨rfl, e1, kH⟩ := hp9
  rw [e1]
  refine a_aload_n cx dX2_round_4 rfl ?_
  refine c_V cx (f2_makeRound cx.htr hF hWF) (lw_V q630 q632 qs5 q78 q633) dn_X2_makeRound (RN.of rfl rfl rfl rfl) rfl hF.o rfl rfl rfl (Nat.le_of_ble_eq_true rfl) dX2_round_5 (by omega) (by omega) (fun v9 h hp9 => ?_) (fun E9 q9 h9 hx9 => hx9.elim)
  obtain ⟨rfl, hF3⟩ := hp9
  have hA := roundsA_k (s := s) kH
  exact a_iret cx hq dX2_round_8 ⟨by rw [hA], by rw [hA], by rw [hA]; exact hF3.w⟩ (by omega) (by omega)
abbrev rm_X2_settle : Room := { frames := 24, cells := 6400, slots := 127200, locals := 520 }
set_option maxHeartbeats 4000000 in
theorem f2_settle {lx : Launch} {g : GP} {h : AH} (htr : lx.stackTraces = false) {hb : AH} {f a ea ca b eb cb d : Nat} {ma mb : Int32} {ls lh : List Nat} {s : SF} (hF : FA g hb h f s a ea ma ca b eb mb cb d ls lh) (hWF : WF s) {u : Int32} : KT lx g yX2_settle (ws_ yX2_settle cX2_settle 4 (some .int)) rm_X2_settle 6400 127200 [.ref f, .int u] h (PA g hb f (settlesA s u)) (XA g hb (settlesA s u) exIA) := by
  refine KT.of (by decide +kernel) htr (Nat.le_of_ble_eq_true rfl) (L0 := [some (.ref f), some (.int u), none, none]) rfl ?_
  intro M cx hl9 hq hin hnx
  have hR1 : rm_X2_settle.cells = 6400 := rfl
  have hR2 : rm_X2_settle.slots = 127200 := rfl
  refine AW.hk fun hk9 => ?_
  have hS := hWF.1
  have hP := hWF.2.2
  have hn := hS.2.1
  have hm := hS.2.2.2
  refine a_iload_n cx dX2_settle_0 rfl ?_
  refine a_i2l cx dX2_settle_1 rfl ?_
  refine a_lconst cx (v := 1) dX2_settle_2 (by decide) ?_
  refine a_ldc2 cx q1310 dX2_settle_3 ?_
  refine c_SN cx (f1_inRange (x := u) (y := 1) (z := 30) cx.htr) (lw_meth q795) q77 q793 q794 dn_X1_inRange (RN.of rfl rfl rfl rfl) rfl rfl (Nat.le_of_ble_eq_true rfl) dX2_settle_6 (by omega) (by omega) (pK ?_) (fun E9 q9 h9 hx9 => hx9.elim)
  refine c_SN cx (f1_checkArgument cx.htr) (lw_meth q1161) q77 q1168 q1160 dn_X1_checkArgument (RN.of rfl rfl rfl rfl) rfl rfl (Nat.le_of_ble_eq_true rfl) dX2_settle_9 (by omega) (by omega) (fun v9 h hp9 => ?_) (fun E9 q9 h9 hx9 => AX.out cx hq hnx (XA.thr hF.ss hx9 (fun z => ⟨by rw [settlesA_x ((bI_0 _).mp z)]; exact m1_neg, by rw [settlesA_x ((bI_0 _).mp z)]; first | done | rfl | decide⟩)) (by omega) (by omega))
  obtain ⟨rfl, e9, ck9⟩ := hp9
  rw [e9]
  have k9 := bI_n0 ck9
  refine a_aload_n cx dX2_settle_12 rfl ?_
  refine c_V cx (f2_checkRounds cx.htr hF hn hm) (lw_V q1302 q1304 qs12 q78 q1305) dn_X2_checkRounds (RN.of rfl rfl rfl rfl) rfl hF.o rfl rfl rfl (Nat.le_of_ble_eq_true rfl) dX2_settle_13 (by omega) (by omega) (fun v9 h hp9 => ?_) (fun E9 q9 h9 hx9 => AX.out cx hq hnx (XA.ref hF.ss hx9 (fun z => by rw [settlesA_h k9 z]; exact ⟨rfl, rfl⟩) (by decide)) (by omega) (by omega))
  obtain ⟨rfl, e13, kH⟩ := hp9
  rw [e13]
  obtain ⟨m, hm30, em⟩ := inR_30 k9
  subst em
  refine a_aload_n cx dX2_settle_16 rfl ?_
  refine c_V cx (f2_isStill cx.htr hF hWF) (lw_V q751 q289 q290 q78 q291) dn_X2_isStill (RN.of rfl rfl rfl rfl) rfl hF.o rfl rfl rfl (Nat.le_of_ble_eq_true rfl) dX2_settle_17 (by omega) (by omega) (pK ?_) (fun E9 q9 h9 hx9 => hx9.elim)
  refine a_if_ne cx (tgt := 27) dX2_settle_20 (by decide) (fun c20 => ?_) (fun c20 => ?_)
  · have hst := bI_n0 c20
    have hA := settlesA_s (s := s) k9 kH hst
    refine a_iconst cx (v := 0) dX2_settle_27 (by decide) ?_
    refine a_iconst cx (v := 4) dX2_settle_28 (by decide) ?_
    refine a_aload_n cx dX2_settle_29 rfl ?_
    refine a_get cx fl_X2_61.g dX2_settle_30 hF.o (by exact rfl) ?_
    refine c_S cx (f7_check (r := 4) (d := s 2) cx.htr) (lw_S q1169 q1170 q106 q1171) dn_X7_check (RN.of rfl rfl rfl rfl) rfl rfl (Nat.le_of_ble_eq_true rfl) dX2_settle_33 (by omega) (by omega) (fun v9 h hp9 => ?_) (fun E9 q9 h9 hx9 => AX.out cx hq hnx (XA.ref hF.ss hx9 (fun _ => by rw [hA]; exact ⟨rfl, rfl⟩) (by decide)) (by omega) (by omega))
    obtain ⟨rfl, e33, ck33⟩ := hp9
    exact absurd rfl ck33
  · have hst : ¬ still s = true := by rw [(bI_0 _).mp c20]; decide
    have hA := settlesA_k (s := s) k9 hm30 kH hst
    refine a_iconst cx (v := 1) dX2_settle_23 (by decide) ?_
    refine a_goto cx (tgt := 28) dX2_settle_24 (by decide) ?_
    refine a_iconst cx (v := 4) dX2_settle_28 (by decide) ?_
    refine a_aload_n cx dX2_settle_29 rfl ?_
    refine a_get cx fl_X2_61.g dX2_settle_30 hF.o (by exact rfl) ?_
    refine c_S cx (f7_check (r := 4) (d := s 2) cx.htr) (lw_S q1169 q1170 q106 q1171) dn_X7_check (RN.of rfl rfl rfl rfl) rfl rfl (Nat.le_of_ble_eq_true rfl) dX2_settle_33 (by omega) (by omega) (fun v9 h hp9 => ?_) (fun E9 q9 h9 hx9 => (absurd hx9.2.2.2.2 (by decide)))
    obtain ⟨rfl, e33, ck33⟩ := hp9
    rw [e33]
    refine a_iconst cx (v := 0) dX2_settle_36 (by decide) ?_
    refine a_istore_n cx dX2_settle_37 (Nat.le_of_ble_eq_true rfl) rfl ?_
    have loop : ∀ (j0 k : Nat) (h1 : AH), k ≤ m → m < k + j0 → FA g hb h1 f (rnds s k) a ea ma ca b eb mb cb d ls lh → toStill s m = k + toStill (rnds s k) (m - k) → AW g M (140 + 204 * k) (3310 + 4018 * k) 38 [some (.ref f), some (.int (nI m)), some (.int (nI k)), none] [] h1 := by
      intro j0
      induction j0 with
      | zero => intro k h1 b1 b2; omega
      | succ j0 ih =>
        intro k h1 z1 z2 hX hts
        refine a_iload_n cx dX2_settle_38 rfl ?_
        refine a_iload_n cx dX2_settle_39 rfl ?_
        refine a_icmp_ge cx (tgt := 61) dX2_settle_40 (by decide) (fun c40 => ?_) (fun c40 => ?_)
        · have d40 : k = m := by have := le_nI c40 (by omega) (by omega); omega
          have hr : toStill s m = k := by rw [hts, d40, Nat.sub_self]; rfl
          refine a_iload_n cx dX2_settle_61 rfl ?_
          exact a_iret cx hq dX2_settle_62 ⟨by rw [hA], by rw [hA, hr], by rw [hA, hr]; exact hX.w⟩ (by omega) (by omega)
        · have d40 := nle_nI c40 (by omega) (by omega)
          refine a_aload_n cx dX2_settle_43 rfl ?_
          refine c_V cx (f2_isStill cx.htr hX (rnds_WF hWF k)) (lw_V q751 q289 q290 q78 q291) dn_X2_isStill (RN.of rfl rfl rfl rfl) rfl hX.o rfl rfl rfl (Nat.le_of_ble_eq_true rfl) dX2_settle_44 (by omega) (by omega) (pK ?_) (fun E9 q9 h9 hx9 => hx9.elim)
          refine a_if_ne cx (tgt := 61) dX2_settle_47 (by decide) (fun c47 => ?_) (fun c47 => ?_)
          · have hst2 := bI_n0 c47
            have hr : toStill s m = k := by rw [hts, show m - k = (m - k - 1) + 1 by omega, toStill, if_pos hst2]; rfl
            refine a_iload_n cx dX2_settle_61 rfl ?_
            exact a_iret cx hq dX2_settle_62 ⟨by rw [hA], by rw [hA, hr], by rw [hA, hr]; exact hX.w⟩ (by omega) (by omega)
          · have hst2 : ¬ still (rnds s k) = true := by rw [(bI_0 _).mp c47]; decide
            have hts4 : toStill s m = (k + 1) + toStill (rnds s (k + 1)) (m - (k + 1)) := by rw [hts, show m - k = (m - (k + 1)) + 1 by omega, toStill, if_neg hst2]; show _ = _ + toStill (ground (rnds s k)) _; omega
            refine a_aload_n cx dX2_settle_50 rfl ?_
            refine c_V cx (f2_makeRound cx.htr hX (rnds_WF hWF k)) (lw_V q630 q632 qs5 q78 q633) dn_X2_makeRound (RN.of rfl rfl rfl rfl) rfl hX.o rfl rfl rfl (Nat.le_of_ble_eq_true rfl) dX2_settle_51 (by omega) (by omega) (fun v9 h hp9 => ?_) (fun E9 q9 h9 hx9 => hx9.elim)
            obtain ⟨rfl, hX4⟩ := hp9
            refine a_istore_n cx dX2_settle_54 (Nat.le_of_ble_eq_true rfl) rfl ?_
            refine a_iincN cx dX2_settle_55 rfl (Nat.le_of_ble_eq_true rfl) rfl ?_
            refine a_goto cx (tgt := 38) dX2_settle_58 (by decide) ?_
            refine AW.widen ?_ ?_ (AW.loc ?_ (ih (k + 1) _ (by omega) (by omega) hX4 hts4))
            · omega
            · omega
            · exact ⟨rfl, rfl, rfl, trivial⟩
    exact AW.widen (by omega) (by omega) (AW.loc (show lle [some (.ref f), some (.int (nI m)), some (.int (nI 0)), none] _ from ⟨rfl, rfl, rfl, trivial⟩) (loop (m + 1) 0 _ (Nat.zero_le _) (by omega) hF (Nat.zero_add _).symm))
