/-! THE CLASS: questions -/
set_option maxRecDepth 100000
abbrev rm_X1_isStill : Room := { frames := 22, cells := 130, slots := 3270, locals := 520 }
set_option maxHeartbeats 4000000 in
theorem f1_isStill {lx : Launch} {g : GP} {h : AH} (htr : lx.stackTraces = false) {hb : AH} {f a ea ca b eb cb d : Nat} {ma mb : Int32} {ls lh : List Nat} {s : SF} (hF : FA g hb h f s a ea ma ca b eb mb cb d ls lh) (hWF : WF s) {x dq sb ln : Nat} {sv er re : Option Nat} {it : Int32} (hx : h x = some (clE f dq sv sb ln er it re)) : KT lx g yX1_isStill (ws_ yX1_isStill cX1_isStill 1 (some .boolean)) rm_X1_isStill 130 3270 [.ref x] h (QA h ((0, bI (still s)))) (noX) := by
  refine KT.of (by decide +kernel) htr (Nat.le_of_ble_eq_true rfl) (L0 := [some (.ref x)]) rfl ?_
  intro M cx hl9 hq hin hnx
  have hR1 : rm_X1_isStill.cells = 130 := rfl
  have hR2 : rm_X1_isStill.slots = 3270 := rfl
  refine AW.hk fun hk9 => ?_
  have hS := hWF.1
  have hP := hWF.2.2
  have hn := hS.2.1
  have hm := hS.2.2.2
  refine a_aload_n cx dX1_isStill_0 rfl ?_
  refine a_get cx fl_X1_37.g dX1_isStill_1 (by assumption) (by exact rfl) ?_
  refine c_V cx (f2_isStill cx.htr hF hWF) (lw_V q288 q289 q290 q78 q291) dn_X2_isStill (RN.of rfl rfl rfl rfl) rfl hF.o rfl rfl rfl (Nat.le_of_ble_eq_true rfl) dX1_isStill_4 (by omega) (by omega) (pK ?_) (fun E9 q9 h9 hx9 => hx9.elim)
  exact a_zret cx hq dX1_isStill_7 (by cases still s <;> rfl) ⟨rfl, sub.rf, rfl⟩ (by omega) (by omega)
abbrev rm_X1_roundsToStill : Room := { frames := 26, cells := 8700, slots := 170600, locals := 600 }
set_option maxHeartbeats 4000000 in
theorem f1_roundsToStill {lx : Launch} {g : GP} {h : AH} (htr : lx.stackTraces = false) {hb : AH} {f a ea ca b eb cb d : Nat} {ma mb : Int32} {ls lh : List Nat} {s : SF} (hF : FA g hb h f s a ea ma ca b eb mb cb d ls lh) (hWF : WF s) {x dq sb ln : Nat} {sv er re : Option Nat} {it : Int32} (hx : h x = some (clE f dq sv sb ln er it re)) : KT lx g yX1_roundsToStill (ws_ yX1_roundsToStill cX1_roundsToStill 1 (some .int)) rm_X1_roundsToStill 8700 170600 [.ref x] h (QA h ((0, qToStill s))) (noX) := by
  refine KT.of (by decide +kernel) htr (Nat.le_of_ble_eq_true rfl) (L0 := [some (.ref x)]) rfl ?_
  intro M cx hl9 hq hin hnx
  have hR1 : rm_X1_roundsToStill.cells = 8700 := rfl
  have hR2 : rm_X1_roundsToStill.slots = 170600 := rfl
  refine AW.hk fun hk9 => ?_
  have hS := hWF.1
  have hP := hWF.2.2
  have hn := hS.2.1
  have hm := hS.2.2.2
  refine a_aload_n cx dX1_roundsToStill_0 rfl ?_
  refine a_get cx fl_X1_37.g dX1_roundsToStill_1 (by assumption) (by exact rfl) ?_
  refine c_V cx (f2_roundsToStill cx.htr hF hWF) (lw_V q747 q748 q749 q78 q750) dn_X2_roundsToStill (RN.of rfl rfl rfl rfl) rfl hF.o rfl rfl rfl (Nat.le_of_ble_eq_true rfl) dX1_roundsToStill_4 (by omega) (by omega) (pK ?_) (fun E9 q9 h9 hx9 => hx9.elim)
  exact a_iret cx hq dX1_roundsToStill_7 ⟨rfl, sub.rf, rfl⟩ (by omega) (by omega)
abbrev rm_X1_isRight : Room := { frames := 26, cells := 190, slots := 5300, locals := 600 }
set_option maxHeartbeats 4000000 in
theorem f1_isRight {lx : Launch} {g : GP} {h : AH} (htr : lx.stackTraces = false) {hb : AH} {f a ea ca b eb cb d : Nat} {ma mb : Int32} {ls lh : List Nat} {s : SF} (hF : FA g hb h f s a ea ma ca b eb mb cb d ls lh) (hWF : WF s) {x dq sb ln : Nat} {sv er re : Option Nat} {it : Int32} (hx : h x = some (clE f dq sv sb ln er it re)) : KT lx g yX1_isRight (ws_ yX1_isRight cX1_isRight 1 (some .boolean)) rm_X1_isRight 190 5300 [.ref x] h (QA h ((0, bI (qRight s)))) (noX) := by
  refine KT.of (by decide +kernel) htr (Nat.le_of_ble_eq_true rfl) (L0 := [some (.ref x)]) rfl ?_
  intro M cx hl9 hq hin hnx
  have hR1 : rm_X1_isRight.cells = 190 := rfl
  have hR2 : rm_X1_isRight.slots = 5300 := rfl
  refine AW.hk fun hk9 => ?_
  have hS := hWF.1
  have hP := hWF.2.2
  have hn := hS.2.1
  have hm := hS.2.2.2
  refine a_aload_n cx dX1_isRight_0 rfl ?_
  refine a_get cx fl_X1_37.g dX1_isRight_1 (by assumption) (by exact rfl) ?_
  refine c_V cx (f2_isRight cx.htr hF hWF) (lw_V q786 q787 q788 q78 q789) dn_X2_isRight (RN.of rfl rfl rfl rfl) rfl hF.o rfl rfl rfl (Nat.le_of_ble_eq_true rfl) dX1_isRight_4 (by omega) (by omega) (pK ?_) (fun E9 q9 h9 hx9 => hx9.elim)
  exact a_zret cx hq dX1_isRight_7 (by cases qRight s <;> rfl) ⟨rfl, sub.rf, rfl⟩ (by omega) (by omega)
abbrev rm_X1_spread : Room := { frames := 16, cells := 20, slots := 60, locals := 400 }
set_option maxHeartbeats 4000000 in
theorem f1_spread {lx : Launch} {g : GP} {h : AH} (htr : lx.stackTraces = false) {hb : AH} {f a ea ca b eb cb d : Nat} {ma mb : Int32} {ls lh : List Nat} {s : SF} (hF : FA g hb h f s a ea ma ca b eb mb cb d ls lh) (hWF : WF s) {x dq sb ln : Nat} {sv er re : Option Nat} {it : Int32} (hx : h x = some (clE f dq sv sb ln er it re)) {u : Int32} : KT lx g yX1_spread (ws_ yX1_spread cX1_spread 2 (some .int)) rm_X1_spread 20 60 [.ref x, .int u] h (QA h ((0, sprs s (nH s)))) (noX) := by
  refine KT.of (by decide +kernel) htr (Nat.le_of_ble_eq_true rfl) (L0 := [some (.ref x), some (.int u)]) rfl ?_
  intro M cx hl9 hq hin hnx
  have hR1 : rm_X1_spread.cells = 20 := rfl
  have hR2 : rm_X1_spread.slots = 60 := rfl
  refine AW.hk fun hk9 => ?_
  have hS := hWF.1
  have hP := hWF.2.2
  have hn := hS.2.1
  have hm := hS.2.2.2
  refine a_iload_n cx dX1_spread_0 rfl ?_
  refine a_if_eq cx (tgt := 14) dX1_spread_1 (by decide) (fun c1 => ?_) (fun c1 => ?_)
  · refine a_aload_n cx dX1_spread_14 rfl ?_
    refine a_get cx fl_X1_37.g dX1_spread_15 (by assumption) (by exact rfl) ?_
    refine c_V cx (f2_spread cx.htr hF hn hm) (lw_V q760 q761 q762 q78 q763) dn_X2_spread (RN.of rfl rfl rfl rfl) rfl hF.o rfl rfl rfl (Nat.le_of_ble_eq_true rfl) dX1_spread_18 (by omega) (by omega) (pK ?_) (fun E9 q9 h9 hx9 => hx9.elim)
    exact a_iret cx hq dX1_spread_21 ⟨rfl, sub.rf, rfl⟩ (by omega) (by omega)
  · refine a_aload_n cx dX1_spread_4 rfl ?_
    refine a_get cx fl_X1_37.g dX1_spread_5 (by assumption) (by exact rfl) ?_
    refine c_V cx (f2_spreadAgain cx.htr hF hn hm hWF.2.1.1) (lw_V q756 q757 q758 q78 q759) dn_X2_spreadAgain (RN.of rfl rfl rfl rfl) rfl hF.o rfl rfl rfl (Nat.le_of_ble_eq_true rfl) dX1_spread_8 (by omega) (by omega) (pK ?_) (fun E9 q9 h9 hx9 => hx9.elim)
    refine AW.topi (show _ = sprs s (nH s) by rw [← sprn_sprs]; exact (sga_ok hWF.2.1.1 hm _ (Nat.le_refl _)).symm) ?_
    refine a_goto cx (tgt := 21) dX1_spread_11 (by decide) ?_
    exact a_iret cx hq dX1_spread_21 ⟨rfl, sub.rf, rfl⟩ (by omega) (by omega)
theorem qAfter_x {s : SF} {u : Int32} (h : inR u 0 20 = false) : qAfter s u = (1, 0) := if_neg (by rw [h]; decide)
theorem qAfter_0 {s : SF} {u : Int32} (h : inR u 0 20 = true) (h0 : nH s = 0) : qAfter s u = (2, 0) := by unfold qAfter; rw [if_pos h, if_pos h0]
theorem qAfter_n {s : SF} {m : Nat} (h : inR (nI m) 0 20 = true) (hm : m ≤ 20) (h0 : ¬ nH s = 0) : qAfter s (nI m) = (0, sprs (rnds s m) (nH s)) := by unfold qAfter; rw [if_pos h, if_neg h0, oN_nI (by omega)]
theorem qWith_x {s : SF} {u w : Int32} (h : ¬ (inP u = true ∧ inP w = true)) : qWith s u w = (1, 0) := if_neg h
theorem qWith_n {s : SF} {u w : Int32} (h1 : inP u = true) (h2 : inP w = true) : qWith s u w = (0, swt s u w (nS s)) := if_pos ⟨h1, h2⟩
theorem qNear_x {s : SF} {u w : Int32} (h : ¬ (inP u = true ∧ inP w = true)) : qNear s u w = (1, 0) := if_neg h
theorem qNear_0 {s : SF} {u w : Int32} (h1 : inP u = true) (h2 : inP w = true) (h0 : near s u w = none) : qNear s u w = (2, 0) := by unfold qNear; rw [if_pos ⟨h1, h2⟩, if_pos (nr_none.mp h0)]
theorem qNear_n {s : SF} {u w : Int32} {b : Nat} (h1 : inP u = true) (h2 : inP w = true) (h0 : near s u w = some b) : qNear s u w = (0, nI b) := by
  have hb := nr_lt h0
  unfold qNear; rw [if_pos ⟨h1, h2⟩, if_neg (by omega), h0]; rfl
theorem qStray_x {s : SF} {u : Int32} (h : isIx u (strm s (nS s)) = false) (hn : nS s ≤ 18) : qStray s u = (1, 0) := by
  have hl := strm_le s (nS s)
  unfold qStray
  rw [nst_no _ (fun j hj z => by rw [(isIx_iff (by omega)).mpr ⟨j, hj, z.symm⟩] at h; cases h)]
theorem qStray_n {s : SF} {u : Int32} {m : Nat} (h : nst s u (nS s) = some m) : qStray s u = (0, nI m) := by unfold qStray; rw [h]
theorem qDog_x {s : SF} {u : Int32} (h : inR u 0 2 = false) : qDog s u = (1, 0) := if_neg (by rw [h]; decide)
theorem qDog_n {s : SF} {j : Nat} (h : j ≤ 2) : qDog s (nI j) = (0, s (6 + j)) := by
  have h3 : ∀ j, j < 3 → inR (nI j) 0 2 = true := by decide
  unfold qDog; rw [if_pos (h3 j (by omega)), oN_nI (by omega)]
theorem qApart_x {s : SF} {u w : Int32} (h : isIx u (nH s) = false ∨ isIx w (nH s) = false) : qApart s u w = (1, 0) := if_neg (fun z => h.elim (fun y => by rw [z.1] at y; cases y) (fun y => by rw [z.2] at y; cases y))
theorem qApart_n {s : SF} {i j : Nat} (hi : i < nH s) (hj : j < nH s) (hm : nH s ≤ 6) : qApart s (nI i) (nI j) = (0, (s (81 + i) - s (81 + j)) * (s (81 + i) - s (81 + j)) + (s (87 + i) - s (87 + j)) * (s (87 + i) - s (87 + j))) := by
  unfold qApart fTo
  rw [if_pos ⟨(isIx_iff (by omega)).mpr ⟨i, hi, rfl⟩, (isIx_iff (by omega)).mpr ⟨j, hj, rfl⟩⟩, oN_nI (by omega), oN_nI (by omega)]
theorem qRanked_x {s : SF} {u : Int32} (h : rkd s u (nH s) = none) : qRanked s u = (1, 0) := by unfold qRanked; rw [h]
theorem qRanked_n {s : SF} {u : Int32} {j : Nat} (h : rkd s u (nH s) = some j) : qRanked s u = (0, nI j) := by unfold qRanked; rw [h]
abbrev rm_X1_spreadAfter : Room := { frames := 26, cells := 1610, slots := 17720, locals := 600 }
set_option maxHeartbeats 4000000 in
theorem f1_spreadAfter {lx : Launch} {g : GP} {h : AH} (htr : lx.stackTraces = false) {hb : AH} {f a ea ca b eb cb d : Nat} {ma mb : Int32} {ls lh : List Nat} {s : SF} (hF : FA g hb h f s a ea ma ca b eb mb cb d ls lh) (hWF : WF s) {x dq sb ln : Nat} {sv er re : Option Nat} {it : Int32} (hx : h x = some (clE f dq sv sb ln er it re)) {u : Int32} : KT lx g yX1_spreadAfter (ws_ yX1_spreadAfter cX1_spreadAfter 2 (some .int)) rm_X1_spreadAfter 1610 17720 [.ref x, .int u] h (QA h (qAfter s u)) (XQ h (qAfter s u) (ex2 "java/lang/IllegalArgumentException" "java/util/NoSuchElementException")) := by
  refine KT.of (by decide +kernel) htr (Nat.le_of_ble_eq_true rfl) (L0 := [some (.ref x), some (.int u)]) rfl ?_
  intro M cx hl9 hq hin hnx
  have hR1 : rm_X1_spreadAfter.cells = 1610 := rfl
  have hR2 : rm_X1_spreadAfter.slots = 17720 := rfl
  refine AW.hk fun hk9 => ?_
  have hS := hWF.1
  have hP := hWF.2.2
  have hn := hS.2.1
  have hm := hS.2.2.2
  refine a_iload_n cx dX1_spreadAfter_0 rfl ?_
  refine a_i2l cx dX1_spreadAfter_1 rfl ?_
  refine a_lconst cx (v := 0) dX1_spreadAfter_2 (by decide) ?_
  refine a_ldc2 cx q1523 dX1_spreadAfter_3 ?_
  refine c_S cx (f1_inRange (x := u) (y := 0) (z := 20) cx.htr) (lw_S q1158 q794 q77 q795) dn_X1_inRange (RN.of rfl rfl rfl rfl) rfl rfl (Nat.le_of_ble_eq_true rfl) dX1_spreadAfter_6 (by omega) (by omega) (pK ?_) (fun E9 q9 h9 hx9 => hx9.elim)
  refine c_S cx (f1_checkArgument cx.htr) (lw_S q1159 q1160 q77 q1161) dn_X1_checkArgument (RN.of rfl rfl rfl rfl) rfl rfl (Nat.le_of_ble_eq_true rfl) dX1_spreadAfter_9 (by omega) (by omega) (fun v9 h hp9 => ?_) (fun E9 q9 h9 hx9 => AX.out cx hq hnx (XQ.of sub.rf hx9 (fun z => by rw [qAfter_x ((bI_0 _).mp z)]; exact ⟨by first | exact n1_0 | exact n2_0, rfl⟩)) (by omega) (by omega))
  obtain ⟨rfl, e9, ck9⟩ := hp9
  rw [e9]
  have k9 := bI_n0 ck9
  obtain ⟨m, hm20, em⟩ := inR_n (x := u) (n := 20) (by omega) k9
  subst em
  refine a_aload_n cx dX1_spreadAfter_12 rfl ?_
  refine a_get cx fl_X1_37.g dX1_spreadAfter_13 (by assumption) (by exact rfl) ?_
  refine a_iload_n cx dX1_spreadAfter_16 rfl ?_
  refine c_V cx (f2_spreadAfter (m := m) cx.htr hF hWF hm20) (lw_V q1524 q1525 q1526 q78 q1527) dn_X2_spreadAfter (RN.of rfl rfl rfl rfl) rfl hF.o rfl rfl rfl (Nat.le_of_ble_eq_true rfl) dX1_spreadAfter_17 (by omega) (by omega) (fun v9 h hp9 => ?_) (fun E9 q9 h9 hx9 => AX.out cx hq hnx (XQ.of sub.rf hx9 (fun z => by rw [qAfter_0 k9 z]; exact ⟨n2_0, rfl⟩)) (by omega) (by omega))
  obtain ⟨rfl, e17, c17⟩ := hp9
  rw [e17]
  have hA := qAfter_n k9 hm20 c17
  exact a_iret cx hq dX1_spreadAfter_20 ⟨by rw [hA], sub.rf, by rw [hA]⟩ (by omega) (by omega)
abbrev rm_X1_spreadWith : Room := { frames := 20, cells := 70, slots := 2760, locals := 500 }
set_option maxHeartbeats 4000000 in
theorem f1_spreadWith {lx : Launch} {g : GP} {h : AH} (htr : lx.stackTraces = false) {hb : AH} {f a ea ca b eb cb d : Nat} {ma mb : Int32} {ls lh : List Nat} {s : SF} (hF : FA g hb h f s a ea ma ca b eb mb cb d ls lh) (hWF : WF s) {x dq sb ln : Nat} {sv er re : Option Nat} {it : Int32} (hx : h x = some (clE f dq sv sb ln er it re)) {u w : Int32} : KT lx g yX1_spreadWith (ws_ yX1_spreadWith cX1_spreadWith 3 (some .int)) rm_X1_spreadWith 70 2760 [.ref x, .int u, .int w] h (QA h (qWith s u w)) (XQ h (qWith s u w) (ex1 "java/lang/IllegalArgumentException")) := by
  refine KT.of (by decide +kernel) htr (Nat.le_of_ble_eq_true rfl) (L0 := [some (.ref x), some (.int u), some (.int w)]) rfl ?_
  intro M cx hl9 hq hin hnx
  have hR1 : rm_X1_spreadWith.cells = 70 := rfl
  have hR2 : rm_X1_spreadWith.slots = 2760 := rfl
  refine AW.hk fun hk9 => ?_
  have hS := hWF.1
  have hP := hWF.2.2
  have hn := hS.2.1
  have hm := hS.2.2.2
  refine a_iconst cx (v := 2) dX1_spreadWith_0 (by decide) ?_
  refine a_newaI cx dX1_spreadWith_1 (show (2 : Int32) = nI 2 from rfl) (by decide) (by omega) (by omega) (fun p n1 hB1 => ?_)
  have hF1 := hF.up (sub.new n1 (e := eI (g.2.1 0) 2 (fun _ => 0)))
  refine a_dup cx dX1_spreadWith_3 rfl ?_
  refine a_iconst cx (v := 0) dX1_spreadWith_4 (by decide) ?_
  refine a_iload_n cx dX1_spreadWith_5 rfl ?_
  refine a_iast cx dX1_spreadWith_6 (hset_s _ _ _) (show (0 : Int32) = nI 0 from rfl) (by omega) (by omega) ?_
  rw [hset_hset]
  refine a_dup cx dX1_spreadWith_7 rfl ?_
  refine a_iconst cx (v := 1) dX1_spreadWith_8 (by decide) ?_
  refine a_iload_n cx dX1_spreadWith_9 rfl ?_
  refine a_iast cx dX1_spreadWith_10 (hset_s _ _ _) (show (1 : Int32) = nI 1 from rfl) (by omega) (by omega) ?_
  rw [hset_hset]
  refine c_S cx (f1_checkPlaces cx.htr (hset_s _ _ _)) (lw_S q1536 q1155 q77 q1156) dn_X1_checkPlaces (RN.of rfl rfl rfl rfl) rfl rfl (Nat.le_of_ble_eq_true rfl) dX1_spreadWith_11 (by omega) (by omega) (fun v9 h hp9 => ?_) (fun E9 q9 h9 hx9 => AX.out cx hq hnx (XQ.of (sub.new n1) hx9 (fun z => by rw [qWith_x (u := u) (w := w) z]; exact ⟨n1_0, rfl⟩)) (by omega) (by omega))
  obtain ⟨rfl, e11, kx, ky⟩ := hp9
  rw [e11]
  replace kx : inP u = true := kx
  replace ky : inP w = true := ky
  refine AW.hm (sub.new n1) (fun _ => hk9) ?_
  refine a_aload_n cx dX1_spreadWith_14 rfl ?_
  refine a_get cx fl_X1_37.g dX1_spreadWith_15 (by assumption) (by exact rfl) ?_
  refine a_iload_n cx dX1_spreadWith_18 rfl ?_
  refine a_iload_n cx dX1_spreadWith_19 rfl ?_
  refine c_S cx (f8_at cx.htr) (lw_S q1537 q712 q107 q713) dn_X8_at (RN.of rfl rfl rfl rfl) rfl rfl (Nat.le_of_ble_eq_true rfl) dX1_spreadWith_20 (by omega) (by omega) (fun v9 h hp9 => ?_) (fun E9 q9 h9 hx9 => hx9.elim)
  obtain ⟨q9, nq, hBq, rfl, rfl⟩ := hp9
  have hF2 := hF.up (sub.new nq (e := plE u w))
  refine c_V cx (f2_spreadWith cx.htr hF2 hWF (hset_s _ _ _)) (lw_V q1538 q1539 q1540 q78 q1541) dn_X2_spreadWith (RN.of rfl rfl rfl rfl) rfl hF2.o rfl rfl rfl (Nat.le_of_ble_eq_true rfl) dX1_spreadWith_23 (by omega) (by omega) (pK ?_) (fun E9 q9 h9 hx9 => hx9.elim)
  have hA := qWith_n (s := s) kx ky
  exact a_iret cx hq dX1_spreadWith_26 ⟨by rw [hA], (sub.new nq), by rw [hA]⟩ (by omega) (by omega)
abbrev rm_X1_nearest : Room := { frames := 16, cells := 20, slots := 100, locals := 400 }
set_option maxHeartbeats 4000000 in
theorem f1_nearest {lx : Launch} {g : GP} {h : AH} (htr : lx.stackTraces = false) {hb : AH} {f a ea ca b eb cb d : Nat} {ma mb : Int32} {ls lh : List Nat} {s : SF} (hF : FA g hb h f s a ea ma ca b eb mb cb d ls lh) (hWF : WF s) {x dq sb ln : Nat} {sv er re : Option Nat} {it : Int32} (hx : h x = some (clE f dq sv sb ln er it re)) {u w : Int32} : KT lx g yX1_nearest (ws_ yX1_nearest cX1_nearest 4 (some .int)) rm_X1_nearest 20 100 [.ref x, .int u, .int w] h (QA h (qNear s u w)) (XQ h (qNear s u w) (ex2 "java/lang/IllegalArgumentException" "java/util/NoSuchElementException")) := by
  refine KT.of (by decide +kernel) htr (Nat.le_of_ble_eq_true rfl) (L0 := [some (.ref x), some (.int u), some (.int w), none]) rfl ?_
  intro M cx hl9 hq hin hnx
  have hR1 : rm_X1_nearest.cells = 20 := rfl
  have hR2 : rm_X1_nearest.slots = 100 := rfl
  refine AW.hk fun hk9 => ?_
  have hS := hWF.1
  have hP := hWF.2.2
  have hn := hS.2.1
  have hm := hS.2.2.2
  refine a_iconst cx (v := 2) dX1_nearest_0 (by decide) ?_
  refine a_newaI cx dX1_nearest_1 (show (2 : Int32) = nI 2 from rfl) (by decide) (by omega) (by omega) (fun p n1 hB1 => ?_)
  have hF1 := hF.up (sub.new n1 (e := eI (g.2.1 0) 2 (fun _ => 0)))
  refine a_dup cx dX1_nearest_3 rfl ?_
  refine a_iconst cx (v := 0) dX1_nearest_4 (by decide) ?_
  refine a_iload_n cx dX1_nearest_5 rfl ?_
  refine a_iast cx dX1_nearest_6 (hset_s _ _ _) (show (0 : Int32) = nI 0 from rfl) (by omega) (by omega) ?_
  rw [hset_hset]
  refine a_dup cx dX1_nearest_7 rfl ?_
  refine a_iconst cx (v := 1) dX1_nearest_8 (by decide) ?_
  refine a_iload_n cx dX1_nearest_9 rfl ?_
  refine a_iast cx dX1_nearest_10 (hset_s _ _ _) (show (1 : Int32) = nI 1 from rfl) (by omega) (by omega) ?_
  rw [hset_hset]
  refine c_S cx (f1_checkPlaces cx.htr (hset_s _ _ _)) (lw_S q1536 q1155 q77 q1156) dn_X1_checkPlaces (RN.of rfl rfl rfl rfl) rfl rfl (Nat.le_of_ble_eq_true rfl) dX1_nearest_11 (by omega) (by omega) (fun v9 h hp9 => ?_) (fun E9 q9 h9 hx9 => AX.out cx hq hnx (XQ.of (sub.new n1) hx9 (fun z => by rw [qNear_x (u := u) (w := w) z]; exact ⟨n1_0, rfl⟩)) (by omega) (by omega))
  obtain ⟨rfl, e11, kx, ky⟩ := hp9
  rw [e11]
  replace kx : inP u = true := kx
  replace ky : inP w = true := ky
  refine AW.hm (sub.new n1) (fun _ => hk9) ?_
  refine a_aload_n cx dX1_nearest_14 rfl ?_
  refine a_get cx fl_X1_37.g dX1_nearest_15 (by assumption) (by exact rfl) ?_
  refine a_iload_n cx dX1_nearest_18 rfl ?_
  refine a_iload_n cx dX1_nearest_19 rfl ?_
  refine c_S cx (f8_at cx.htr) (lw_S q1537 q712 q107 q713) dn_X8_at (RN.of rfl rfl rfl rfl) rfl rfl (Nat.le_of_ble_eq_true rfl) dX1_nearest_20 (by omega) (by omega) (fun v9 h hp9 => ?_) (fun E9 q9 h9 hx9 => hx9.elim)
  obtain ⟨q9, nq, hBq, rfl, rfl⟩ := hp9
  have hF2 := hF.up (sub.new nq (e := plE u w))
  refine c_V cx (f2_nearestp (w := 0) (u0 := 0) cx.htr hF2 hn hm (hset_s _ _ _)) (lw_V q1474 q635 q636 q78 q637) dn_X2_nearest (RN.of rfl rfl rfl rfl) rfl hF2.o rfl rfl rfl (Nat.le_of_ble_eq_true rfl) dX1_nearest_23 (by omega) (by omega) (pK ?_) (fun E9 q9 h9 hx9 => hx9.elim)
  refine AW.hm (sub.new nq) (fun _ => hk9) ?_
  refine a_istore_n cx dX1_nearest_26 (Nat.le_of_ble_eq_true rfl) rfl ?_
  rcases hat : near s u w with _ | b9
  · have hA := qNear_0 kx ky hat
    refine a_iload_n cx dX1_nearest_27 rfl ?_
    refine a_iconst cx (v := -1) dX1_nearest_28 (by decide) ?_
    refine a_icmp_eq cx (tgt := 36) dX1_nearest_29 (by decide) (fun c29 => ?_) (fun c29 => absurd rfl c29)
    refine a_iconst cx (v := 0) dX1_nearest_36 (by decide) ?_
    refine c_S cx (f1_checkElement cx.htr) (lw_S q1549 q353 q77 q354) dn_X1_checkElement (RN.of rfl rfl rfl rfl) rfl rfl (Nat.le_of_ble_eq_true rfl) dX1_nearest_37 (by omega) (by omega) (fun v9 h hp9 => ?_) (fun E9 q9 h9 hx9 => AX.out cx hq hnx (XQ.of sub.rf hx9 (fun z => by rw [hA]; exact ⟨n2_0, rfl⟩)) (by omega) (by omega))
    obtain ⟨rfl, e37, ck37⟩ := hp9
    exact absurd rfl ck37
  · have hA := qNear_n kx ky hat
    have hb9 := nr_lt hat
    refine a_iload_n cx dX1_nearest_27 rfl ?_
    refine a_iconst cx (v := -1) dX1_nearest_28 (by decide) ?_
    refine a_icmp_eq cx (tgt := 36) dX1_nearest_29 (by decide) (fun c29 => absurd c29 (oI_s (by omega))) (fun c29 => ?_)
    refine a_iconst cx (v := 1) dX1_nearest_32 (by decide) ?_
    refine a_goto cx (tgt := 37) dX1_nearest_33 (by decide) ?_
    refine c_S cx (f1_checkElementk cx.htr (by decide)) (lw_S q1549 q353 q77 q354) dn_X1_checkElement (RN.of rfl rfl rfl rfl) rfl rfl (Nat.le_of_ble_eq_true rfl) dX1_nearest_37 (by omega) (by omega) (pV ?_) (fun E9 q9 h9 hx9 => hx9.elim)
    refine a_iload_n cx dX1_nearest_40 rfl ?_
    exact a_iret cx hq dX1_nearest_41 ⟨by rw [hA]; rfl, sub.rf, by rw [hA]⟩ (by omega) (by omega)
abbrev rm_X1_strays : Room := { frames := 18, cells := 20, slots := 1810, locals := 450 }
set_option maxHeartbeats 4000000 in
theorem f1_strays {lx : Launch} {g : GP} {h : AH} (htr : lx.stackTraces = false) {hb : AH} {f a ea ca b eb cb d : Nat} {ma mb : Int32} {ls lh : List Nat} {s : SF} (hF : FA g hb h f s a ea ma ca b eb mb cb d ls lh) (hWF : WF s) {x dq sb ln : Nat} {sv er re : Option Nat} {it : Int32} (hx : h x = some (clE f dq sv sb ln er it re)) : KT lx g yX1_strays (ws_ yX1_strays cX1_strays 1 (some .int)) rm_X1_strays 20 1810 [.ref x] h (QA h ((0, nI (strm s (nS s))))) (noX) := by
  refine KT.of (by decide +kernel) htr (Nat.le_of_ble_eq_true rfl) (L0 := [some (.ref x)]) rfl ?_
  intro M cx hl9 hq hin hnx
  have hR1 : rm_X1_strays.cells = 20 := rfl
  have hR2 : rm_X1_strays.slots = 1810 := rfl
  refine AW.hk fun hk9 => ?_
  have hS := hWF.1
  have hP := hWF.2.2
  have hn := hS.2.1
  have hm := hS.2.2.2
  refine a_aload_n cx dX1_strays_0 rfl ?_
  refine a_get cx fl_X1_37.g dX1_strays_1 (by assumption) (by exact rfl) ?_
  refine c_V cx (f2_strays cx.htr hF hn hm hWF.2.1.1) (lw_V q774 q775 q776 q78 q777) dn_X2_strays (RN.of rfl rfl rfl rfl) rfl hF.o rfl rfl rfl (Nat.le_of_ble_eq_true rfl) dX1_strays_4 (by omega) (by omega) (fun v9 h hp9 => ?_) (fun E9 q9 h9 hx9 => hx9.elim)
  obtain ⟨q, edq, mq, cq, rfl, nq, hs2, hlq⟩ := hp9
  refine c_V cx (j2_size cx.htr hlq.1) (lw_V q273 q274 q275 q81 q276) dn_J2_size (RN.of rfl rfl rfl rfl) rfl hlq.1 rfl rfl rfl (Nat.le_of_ble_eq_true rfl) dX1_strays_7 (by omega) (by omega) (pK ?_) (fun E9 q9 h9 hx9 => hx9.elim)
  refine AW.topi (congrArg nI (srl_len _ _ _)) ?_
  exact a_iret cx hq dX1_strays_10 ⟨rfl, hs2, rfl⟩ (by omega) (by omega)
abbrev rm_X1_stray : Room := { frames := 18, cells := 30, slots := 1860, locals := 450 }
set_option maxHeartbeats 4000000 in
theorem f1_stray {lx : Launch} {g : GP} {h : AH} (htr : lx.stackTraces = false) {hb : AH} {f a ea ca b eb cb d : Nat} {ma mb : Int32} {ls lh : List Nat} {s : SF} (hF : FA g hb h f s a ea ma ca b eb mb cb d ls lh) (hWF : WF s) {x dq sb ln : Nat} {sv er re : Option Nat} {it : Int32} (hx : h x = some (clE f dq sv sb ln er it re)) {u : Int32} : KT lx g yX1_stray (ws_ yX1_stray cX1_stray 3 (some .int)) rm_X1_stray 30 1860 [.ref x, .int u] h (QA h (qStray s u)) (XQ h (qStray s u) (ex1 "java/util/NoSuchElementException")) := by
  refine KT.of (by decide +kernel) htr (Nat.le_of_ble_eq_true rfl) (L0 := [some (.ref x), some (.int u), none]) rfl ?_
  intro M cx hl9 hq hin hnx
  have hR1 : rm_X1_stray.cells = 30 := rfl
  have hR2 : rm_X1_stray.slots = 1860 := rfl
  refine AW.hk fun hk9 => ?_
  have hS := hWF.1
  have hP := hWF.2.2
  have hn := hS.2.1
  have hm := hS.2.2.2
  refine a_aload_n cx dX1_stray_0 rfl ?_
  refine a_get cx fl_X1_37.g dX1_stray_1 (by assumption) (by exact rfl) ?_
  refine c_V cx (f2_strays cx.htr hF hn hm hWF.2.1.1) (lw_V q774 q775 q776 q78 q777) dn_X2_strays (RN.of rfl rfl rfl rfl) rfl hF.o rfl rfl rfl (Nat.le_of_ble_eq_true rfl) dX1_stray_4 (by omega) (by omega) (fun v9 h hp9 => ?_) (fun E9 q9 h9 hx9 => hx9.elim)
  obtain ⟨q, edq, mq, cq, rfl, nq, hs2, hlq⟩ := hp9
  have hx2 := hs2 _ _ hx
  have hF2 := hF.up hs2
  have hsl := srl_len s ls (nS s)
  have hsm := strm_le s (nS s)
  refine a_astore_n cx dX1_stray_7 (Nat.le_of_ble_eq_true rfl) rfl ?_
  refine a_iload_n cx dX1_stray_8 rfl ?_
  refine a_i2l cx dX1_stray_9 rfl ?_
  refine a_lconst cx (v := 0) dX1_stray_10 (by decide) ?_
  refine a_aload_n cx dX1_stray_11 rfl ?_
  refine c_V cx (j2_size cx.htr hlq.1) (lw_V q273 q274 q275 q81 q276) dn_J2_size (RN.of rfl rfl rfl rfl) rfl hlq.1 rfl rfl rfl (Nat.le_of_ble_eq_true rfl) dX1_stray_12 (by omega) (by omega) (pK ?_) (fun E9 q9 h9 hx9 => hx9.elim)
  refine AW.topi (congrArg nI hsl) ?_
  refine a_iconst cx (v := 1) dX1_stray_15 (by decide) ?_
  refine a_isub cx dX1_stray_16 ?_
  refine a_i2l cx dX1_stray_17 rfl ?_
  refine c_S cx (f1_inRange (x := u) (y := 0) (z := nI (strm s (nS s)) - 1) cx.htr) (lw_S q1158 q794 q77 q795) dn_X1_inRange (RN.of rfl rfl rfl rfl) rfl rfl (Nat.le_of_ble_eq_true rfl) dX1_stray_18 (by omega) (by omega) (pK ?_) (fun E9 q9 h9 hx9 => hx9.elim)
  refine c_S cx (f1_checkElement cx.htr) (lw_S q1549 q353 q77 q354) dn_X1_checkElement (RN.of rfl rfl rfl rfl) rfl rfl (Nat.le_of_ble_eq_true rfl) dX1_stray_21 (by omega) (by omega) (fun v9 h hp9 => ?_) (fun E9 q9 h9 hx9 => AX.out cx hq hnx (XQ.of hs2 hx9 (fun z => by rw [qStray_x ((bI_0 _).mp z) hn]; exact ⟨by first | exact n1_0 | exact n2_0, rfl⟩)) (by omega) (by omega))
  obtain ⟨rfl, e21, ck21⟩ := hp9
  rw [e21]
  have k21 := bI_n0 ck21
  obtain ⟨k, hk, ek⟩ := (isIx_iff (x := u) (n := strm s (nS s)) (by omega)).mp k21
  subst ek
  obtain ⟨m, m1, m2, m3⟩ := nst_at (ls := ls) (nS s) hn hk
  have hA := qStray_n m2
  refine a_aload_n cx dX1_stray_24 rfl ?_
  refine a_get cx fl_X1_37.g dX1_stray_25 (by assumption) (by exact rfl) ?_
  refine a_get cx fl_X1_103 dX1_stray_28 hF2.o (by exact rfl) ?_
  refine a_aload_n cx dX1_stray_31 rfl ?_
  refine a_iload_n cx dX1_stray_32 rfl ?_
  refine c_V cx (j2_get (i := k) cx.htr hlq (by rw [hsl]; exact hk)) (lw_V q1485 q426 q427 q81 q428) dn_J2_get (RN.of rfl rfl rfl rfl) rfl hlq.1 rfl rfl rfl (Nat.le_of_ble_eq_true rfl) dX1_stray_33 (by omega) (by omega) (pK ?_) (fun E9 q9 h9 hx9 => hx9.elim)
  rw [m3]
  refine c_V cx (j2_indexOf cx.htr hF2.la (hF2.sh m1)) (lw_V q1494 q1325 q1326 q81 q1327) dn_J2_indexOf (RN.of rfl rfl rfl rfl) rfl hF2.la.1 rfl rfl rfl (Nat.le_of_ble_eq_true rfl) dX1_stray_36 (by omega) (by omega) (pK ?_) (fun E9 q9 h9 hx9 => hx9.elim)
  refine AW.topi (show _ = nI m by rw [fi_nodup hF2.ds (by rw [hF2.nl]; exact m1)]; rfl) ?_
  exact a_iret cx hq dX1_stray_39 ⟨by rw [hA], hs2, by rw [hA]⟩ (by omega) (by omega)
abbrev rm_X1_dogAt : Room := { frames := 10, cells := 4, slots := 30, locals := 200 }
set_option maxHeartbeats 4000000 in
theorem f1_dogAt {lx : Launch} {g : GP} {h : AH} (htr : lx.stackTraces = false) {hb : AH} {f a ea ca b eb cb d : Nat} {ma mb : Int32} {ls lh : List Nat} {s : SF} (hF : FA g hb h f s a ea ma ca b eb mb cb d ls lh) (hWF : WF s) {x dq sb ln : Nat} {sv er re : Option Nat} {it : Int32} (hx : h x = some (clE f dq sv sb ln er it re)) {u : Int32} : KT lx g yX1_dogAt (ws_ yX1_dogAt cX1_dogAt 2 (some .int)) rm_X1_dogAt 4 30 [.ref x, .int u] h (QA h (qDog s u)) (XQ h (qDog s u) (ex1 "java/lang/IndexOutOfBoundsException")) := by
  refine KT.of (by decide +kernel) htr (Nat.le_of_ble_eq_true rfl) (L0 := [some (.ref x), some (.int u)]) rfl ?_
  intro M cx hl9 hq hin hnx
  have hR1 : rm_X1_dogAt.cells = 4 := rfl
  have hR2 : rm_X1_dogAt.slots = 30 := rfl
  refine AW.hk fun hk9 => ?_
  have hS := hWF.1
  have hP := hWF.2.2
  have hn := hS.2.1
  have hm := hS.2.2.2
  refine a_aload_n cx dX1_dogAt_0 rfl ?_
  refine a_get cx fl_X1_37.g dX1_dogAt_1 (by assumption) (by exact rfl) ?_
  refine a_iload_n cx dX1_dogAt_4 rfl ?_
  refine c_V cx (f2_checkDog cx.htr) (lw_V q1580 q1316 q1317 q78 q1318) dn_X2_checkDog (RN.of rfl rfl rfl rfl) rfl hF.o rfl rfl rfl (Nat.le_of_ble_eq_true rfl) dX1_dogAt_5 (by omega) (by omega) (fun v9 h hp9 => ?_) (fun E9 q9 h9 hx9 => AX.out cx hq hnx (XQ.of sub.rf hx9 (fun z => by rw [qDog_x z]; exact ⟨n1_0, rfl⟩)) (by omega) (by omega))
  obtain ⟨rfl, e5, k5⟩ := hp9
  rw [e5]
  obtain ⟨j, hj, ej⟩ := inR_n (x := u) (n := 2) (by omega) k5
  subst ej
  have hA := qDog_n (s := s) hj
  obtain ⟨fd, hd1, hd2⟩ := hF.dg
  refine a_aload_n cx dX1_dogAt_8 rfl ?_
  refine a_get cx fl_X1_37.g dX1_dogAt_9 (by assumption) (by exact rfl) ?_
  refine a_get cx fl_X1_156 dX1_dogAt_12 hF.o (by exact rfl) ?_
  refine a_iload_n cx dX1_dogAt_15 rfl ?_
  refine a_iald cx dX1_dogAt_16 hd1 rfl (by omega) (by omega) ?_
  refine AW.topi (hd2 j (by omega)) ?_
  exact a_iret cx hq dX1_dogAt_17 ⟨by rw [hA], sub.rf, by rw [hA]⟩ (by omega) (by omega)
abbrev rm_X1_ranked : Room := { frames := 18, cells := 300, slots := 600, locals := 450 }
set_option maxHeartbeats 4000000 in
theorem f1_ranked {lx : Launch} {g : GP} {h : AH} (htr : lx.stackTraces = false) {hb : AH} {f a ea ca b eb cb d : Nat} {ma mb : Int32} {ls lh : List Nat} {s : SF} (hF : FA g hb h f s a ea ma ca b eb mb cb d ls lh) (hWF : WF s) {x dq sb ln : Nat} {sv er re : Option Nat} {it : Int32} (hx : h x = some (clE f dq sv sb ln er it re)) {u : Int32} : KT lx g yX1_ranked (ws_ yX1_ranked cX1_ranked 3 (some .int)) rm_X1_ranked 300 600 [.ref x, .int u] h (QA h (qRanked s u)) (XQ h (qRanked s u) (ex1 "java/util/NoSuchElementException")) := by
  refine KT.of (by decide +kernel) htr (Nat.le_of_ble_eq_true rfl) (L0 := [some (.ref x), some (.int u), none]) rfl ?_
  intro M cx hl9 hq hin hnx
  have hR1 : rm_X1_ranked.cells = 300 := rfl
  have hR2 : rm_X1_ranked.slots = 600 := rfl
  refine AW.hk fun hk9 => ?_
  have hS := hWF.1
  have hP := hWF.2.2
  have hn := hS.2.1
  have hm := hS.2.2.2
  refine a_aload_n cx dX1_ranked_0 rfl ?_
  refine a_get cx fl_X1_37.g dX1_ranked_1 (by assumption) (by exact rfl) ?_
  refine a_iload_n cx dX1_ranked_4 rfl ?_
  refine c_V cx (f2_ranked cx.htr hF hn hm hWF.2.2.w) (lw_V q1600 q1601 q1602 q78 q1603) dn_X2_ranked (RN.of rfl rfl rfl rfl) rfl hF.o rfl rfl rfl (Nat.le_of_ble_eq_true rfl) dX1_ranked_5 (by omega) (by omega) (pK ?_) (fun E9 q9 h9 hx9 => hx9.elim)
  refine a_istore_n cx dX1_ranked_8 (Nat.le_of_ble_eq_true rfl) rfl ?_
  rcases hat : rkd s u (nH s) with _ | b9
  · have hA := qRanked_x hat
    refine a_iload_n cx dX1_ranked_9 rfl ?_
    refine a_iconst cx (v := -1) dX1_ranked_10 (by decide) ?_
    refine a_icmp_eq cx (tgt := 18) dX1_ranked_11 (by decide) (fun c11 => ?_) (fun c11 => absurd rfl c11)
    refine a_iconst cx (v := 0) dX1_ranked_18 (by decide) ?_
    refine c_S cx (f1_checkElement cx.htr) (lw_S q1549 q353 q77 q354) dn_X1_checkElement (RN.of rfl rfl rfl rfl) rfl rfl (Nat.le_of_ble_eq_true rfl) dX1_ranked_19 (by omega) (by omega) (fun v9 h hp9 => ?_) (fun E9 q9 h9 hx9 => AX.out cx hq hnx (XQ.of sub.rf hx9 (fun z => by rw [hA]; exact ⟨n1_0, rfl⟩)) (by omega) (by omega))
    obtain ⟨rfl, e19, ck19⟩ := hp9
    exact absurd rfl ck19
  · have hA := qRanked_n hat
    have hb9 := rkd_lt hat
    refine a_iload_n cx dX1_ranked_9 rfl ?_
    refine a_iconst cx (v := -1) dX1_ranked_10 (by decide) ?_
    refine a_icmp_eq cx (tgt := 18) dX1_ranked_11 (by decide) (fun c11 => absurd c11 (oI_s (by omega))) (fun c11 => ?_)
    refine a_iconst cx (v := 1) dX1_ranked_14 (by decide) ?_
    refine a_goto cx (tgt := 19) dX1_ranked_15 (by decide) ?_
    refine c_S cx (f1_checkElementk cx.htr (by decide)) (lw_S q1549 q353 q77 q354) dn_X1_checkElement (RN.of rfl rfl rfl rfl) rfl rfl (Nat.le_of_ble_eq_true rfl) dX1_ranked_19 (by omega) (by omega) (pV ?_) (fun E9 q9 h9 hx9 => hx9.elim)
    refine a_iload_n cx dX1_ranked_22 rfl ?_
    exact a_iret cx hq dX1_ranked_23 ⟨by rw [hA]; rfl, sub.rf, by rw [hA]⟩ (by omega) (by omega)
