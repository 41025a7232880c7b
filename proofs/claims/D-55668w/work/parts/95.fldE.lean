/-! THE FIELD: more acts -/
set_option maxRecDepth 100000
abbrev rm_X2_checkHut : Room := { frames := 7, cells := 1, slots := 6, locals := 120 }
set_option maxHeartbeats 4000000 in
theorem f2_checkHut {lx : Launch} {g : GP} {h : AH} (htr : lx.stackTraces = false) {hb : AH} {f a ea ca b eb cb d : Nat} {ma mb : Int32} {ls lh : List Nat} {s : SF} (hF : FA g hb h f s a ea ma ca b eb mb cb d ls lh) (hn : nS s ≤ 18) {u : Int32} : KT lx g yX2_checkHut (ws_ yX2_checkHut cX2_checkHut 2 none) rm_X2_checkHut 1 6 [.ref f, .int u] h (fun v h' => v = none ∧ h' = h ∧ isIx u (nH s) = true) (xN "java/lang/IndexOutOfBoundsException" (isIx u (nH s) = false) h) := by
  refine KT.of (by decide +kernel) htr (Nat.le_of_ble_eq_true rfl) (L0 := [some (.ref f), some (.int u)]) rfl ?_
  intro M cx hl9 hq hin hnx
  refine a_iload_n cx dX2_checkHut_0 rfl ?_
  refine a_i2l cx dX2_checkHut_1 rfl ?_
  refine a_lconst cx (v := 0) dX2_checkHut_2 (by decide) ?_
  refine a_aload_n cx dX2_checkHut_3 rfl ?_
  refine a_get cx fl_X2_18.g dX2_checkHut_4 hF.o (by exact rfl) ?_
  refine c_V cx (j2_size cx.htr hF.lb.1) (lw_V q638 q274 q275 q81 q276) dn_J2_size (RN.of rfl rfl rfl rfl) rfl hF.lb.1 rfl rfl rfl (Nat.le_of_ble_eq_true rfl) dX2_checkHut_7 (Nat.le_of_ble_eq_true rfl) (Nat.le_of_ble_eq_true rfl) (pK ?_) (fun E9 q9 h9 hx9 => hx9.elim)
  refine AW.topi (congrArg nI hF.nh) ?_
  refine a_iconst cx (v := 1) dX2_checkHut_10 (by decide) ?_
  refine a_isub cx dX2_checkHut_11 ?_
  refine a_i2l cx dX2_checkHut_12 rfl ?_
  refine c_SN cx (f1_inRange (x := u) (y := 0) (z := nI (nH s) - 1) cx.htr) (lw_meth q795) q77 q793 q794 dn_X1_inRange (RN.of rfl rfl rfl rfl) rfl rfl (Nat.le_of_ble_eq_true rfl) dX2_checkHut_13 (Nat.le_of_ble_eq_true rfl) (Nat.le_of_ble_eq_true rfl) (pK ?_) (fun E9 q9 h9 hx9 => hx9.elim)
  refine c_SN cx (f1_checkIndex cx.htr) (lw_meth q1224) q77 q1222 q1223 dn_X1_checkIndex (RN.of rfl rfl rfl rfl) rfl rfl (Nat.le_of_ble_eq_true rfl) dX2_checkHut_16 (Nat.le_of_ble_eq_true rfl) (Nat.le_of_ble_eq_true rfl) (fun v9 h hp9 => ?_) (fun E9 q9 h9 hx9 => AX.out cx hq hnx ⟨hx9.1, hx9.2.1, (bI_0 _).mp hx9.2.2⟩ (Nat.le_of_ble_eq_true rfl) (Nat.le_of_ble_eq_true rfl))
  obtain ⟨rfl, e16, ck16⟩ := hp9
  rw [e16]
  exact a_vret cx hq dX2_checkHut_19 ⟨rfl, rfl, bI_n0 ck16⟩ (Nat.le_of_ble_eq_true rfl) (Nat.le_of_ble_eq_true rfl)
abbrev rm_X2_sheep : Room := { frames := 7, cells := 1, slots := 6, locals := 120 }
set_option maxHeartbeats 4000000 in
theorem f2_sheep {lx : Launch} {g : GP} {h : AH} (htr : lx.stackTraces = false) {hb : AH} {f a ea ca b eb cb d : Nat} {ma mb : Int32} {ls lh : List Nat} {s : SF} (hF : FA g hb h f s a ea ma ca b eb mb cb d ls lh) (hn : nS s ≤ 18) {u : Int32} : KT lx g yX2_sheep (ws_ yX2_sheep cX2_sheep 2 (some (.object "FlockHuts$Sheep"))) rm_X2_sheep 1 6 [.ref f, .int u] h (fun v h' => ∃ k, k < nS s ∧ u = nI k ∧ v = some (.ref (ls.getD k 0)) ∧ h' = h) (xN "java/lang/IndexOutOfBoundsException" (isIx u (nS s) = false) h) := by
  refine KT.of (by decide +kernel) htr (Nat.le_of_ble_eq_true rfl) (L0 := [some (.ref f), some (.int u)]) rfl ?_
  intro M cx hl9 hq hin hnx
  refine a_iload_n cx dX2_sheep_0 rfl ?_
  refine a_i2l cx dX2_sheep_1 rfl ?_
  refine a_lconst cx (v := 0) dX2_sheep_2 (by decide) ?_
  refine a_aload_n cx dX2_sheep_3 rfl ?_
  refine a_get cx fl_X2_12.g dX2_sheep_4 hF.o (by exact rfl) ?_
  refine c_V cx (j2_size cx.htr hF.la.1) (lw_V q638 q274 q275 q81 q276) dn_J2_size (RN.of rfl rfl rfl rfl) rfl hF.la.1 rfl rfl rfl (Nat.le_of_ble_eq_true rfl) dX2_sheep_7 (Nat.le_of_ble_eq_true rfl) (Nat.le_of_ble_eq_true rfl) (pK ?_) (fun E9 q9 h9 hx9 => hx9.elim)
  refine AW.topi (congrArg nI hF.nl) ?_
  refine a_iconst cx (v := 1) dX2_sheep_10 (by decide) ?_
  refine a_isub cx dX2_sheep_11 ?_
  refine a_i2l cx dX2_sheep_12 rfl ?_
  refine c_SN cx (f1_inRange (x := u) (y := 0) (z := nI (nS s) - 1) cx.htr) (lw_meth q795) q77 q793 q794 dn_X1_inRange (RN.of rfl rfl rfl rfl) rfl rfl (Nat.le_of_ble_eq_true rfl) dX2_sheep_13 (Nat.le_of_ble_eq_true rfl) (Nat.le_of_ble_eq_true rfl) (pK ?_) (fun E9 q9 h9 hx9 => hx9.elim)
  refine c_SN cx (f1_checkIndex cx.htr) (lw_meth q1224) q77 q1222 q1223 dn_X1_checkIndex (RN.of rfl rfl rfl rfl) rfl rfl (Nat.le_of_ble_eq_true rfl) dX2_sheep_16 (Nat.le_of_ble_eq_true rfl) (Nat.le_of_ble_eq_true rfl) (fun v9 h hp9 => ?_) (fun E9 q9 h9 hx9 => AX.out cx hq hnx ⟨hx9.1, hx9.2.1, (bI_0 _).mp hx9.2.2⟩ (Nat.le_of_ble_eq_true rfl) (Nat.le_of_ble_eq_true rfl))
  obtain ⟨rfl, e16, ck16⟩ := hp9
  rw [e16]
  obtain ⟨k, hk, ek⟩ := (isIx_iff (x := u) (n := nS s) (by omega)).mp (bI_n0 ck16)
  subst ek
  refine a_aload_n cx dX2_sheep_19 rfl ?_
  refine a_get cx fl_X2_12.g dX2_sheep_20 hF.o (by exact rfl) ?_
  refine a_iload_n cx dX2_sheep_23 rfl ?_
  refine c_V cx (j2_get (i := k) cx.htr hF.la (by rw [hF.nl]; exact hk)) (lw_V q639 q426 q427 q81 q428) dn_J2_get (RN.of rfl rfl rfl rfl) rfl hF.la.1 rfl rfl rfl (Nat.le_of_ble_eq_true rfl) dX2_sheep_24 (Nat.le_of_ble_eq_true rfl) (Nat.le_of_ble_eq_true rfl) (pK ?_) (fun E9 q9 h9 hx9 => hx9.elim)
  refine a_castS (r := (RX4, TX4, 4)) cx q456 dX2_sheep_27 (hF.sh hk) rfl ?_
  exact a_aret cx hq dX2_sheep_30 (Or.inl ⟨_, rfl⟩) ⟨k, hk, rfl, rfl, rfl⟩ (Nat.le_of_ble_eq_true rfl) (Nat.le_of_ble_eq_true rfl)
abbrev rm_X2_checkDog : Room := { frames := 7, cells := 1, slots := 6, locals := 120 }
set_option maxHeartbeats 4000000 in
theorem f2_checkDog {lx : Launch} {g : GP} {h : AH} (htr : lx.stackTraces = false) {f : Nat} {u : Int32} : KT lx g yX2_checkDog (ws_ yX2_checkDog cX2_checkDog 2 none) rm_X2_checkDog 1 6 [.ref f, .int u] h (fun v h' => v = none ∧ h' = h ∧ inR u 0 2 = true) (xN "java/lang/IndexOutOfBoundsException" (inR u 0 2 = false) h) := by
  refine KT.of (by decide +kernel) htr (Nat.le_of_ble_eq_true rfl) (L0 := [some (.ref f), some (.int u)]) rfl ?_
  intro M cx hl9 hq hin hnx
  refine a_iload_n cx dX2_checkDog_0 rfl ?_
  refine a_i2l cx dX2_checkDog_1 rfl ?_
  refine a_lconst cx (v := 0) dX2_checkDog_2 (by decide) ?_
  refine a_ldc2 cx q1319 dX2_checkDog_3 ?_
  refine c_SN cx (f1_inRange (x := u) (y := 0) (z := 2) cx.htr) (lw_meth q795) q77 q793 q794 dn_X1_inRange (RN.of rfl rfl rfl rfl) rfl rfl (Nat.le_of_ble_eq_true rfl) dX2_checkDog_6 (Nat.le_of_ble_eq_true rfl) (Nat.le_of_ble_eq_true rfl) (pK ?_) (fun E9 q9 h9 hx9 => hx9.elim)
  refine c_SN cx (f1_checkIndex cx.htr) (lw_meth q1224) q77 q1222 q1223 dn_X1_checkIndex (RN.of rfl rfl rfl rfl) rfl rfl (Nat.le_of_ble_eq_true rfl) dX2_checkDog_9 (Nat.le_of_ble_eq_true rfl) (Nat.le_of_ble_eq_true rfl) (fun v9 h hp9 => ?_) (fun E9 q9 h9 hx9 => AX.out cx hq hnx ⟨hx9.1, hx9.2.1, (bI_0 _).mp hx9.2.2⟩ (Nat.le_of_ble_eq_true rfl) (Nat.le_of_ble_eq_true rfl))
  obtain ⟨rfl, e9, ck9⟩ := hp9
  rw [e9]
  exact a_vret cx hq dX2_checkDog_12 ⟨rfl, rfl, bI_n0 ck9⟩ (Nat.le_of_ble_eq_true rfl) (Nat.le_of_ble_eq_true rfl)
theorem setsA_x {s : SF} {x y : Int32} (h : ¬ (inP x = true ∧ inP y = true)) : setsA s x y = (-1, 0, s) := if_neg h
theorem setsA_t {s : SF} {x y : Int32} {j : Nat} (h1 : inP x = true) (h2 : inP y = true) (h : hutAt s x y = some j) : setsA s x y = (2, nI j, s) := by unfold setsA; rw [if_pos ⟨h1, h2⟩, h]
theorem setsA_n {s : SF} {x y : Int32} (h1 : inP x = true) (h2 : inP y = true) (h : hutAt s x y = none) : setsA s x y = if nH s = 6 then (1, 6, s) else (0, nI (nH s), upd (upd (upd s (81 + nH s) x) (87 + nH s) y) 1 (nI (nH s + 1))) := by unfold setsA; rw [if_pos ⟨h1, h2⟩, h]
abbrev rm_X2_checkFree : Room := { frames := 5, cells := 1, slots := 8, locals := 112 }
set_option maxHeartbeats 4000000 in
theorem f2_checkFree {lx : Launch} {g : GP} {h : AH} (htr : lx.stackTraces = false) {hb : AH} {f a ea ca b eb cb d : Nat} {ma mb : Int32} {ls lh : List Nat} {s : SF} (hF : FA g hb h f s a ea ma ca b eb mb cb d ls lh) (hn : nS s ≤ 18) (hm : nH s ≤ 6) (hP : WP s) {q : Nat} {x y : Int32} (hx : ∃ a : Nat, a ≤ 99 ∧ x = nI a) (hy : ∃ a : Nat, a ≤ 99 ∧ y = nI a) (hp : h q = some (plE x y)) : KT lx g yX2_checkFree (ws_ yX2_checkFree cX2_checkFree 3 none) rm_X2_checkFree 1 8 [.ref f, .ref q] h (fun v h' => v = none ∧ h' = h ∧ hutAt s x y = none) (fun E q h' => ∃ j, hutAt s x y = some j ∧ xR g 2 (nI j) True h E q h') := by
  refine KT.of (by decide +kernel) htr (Nat.le_of_ble_eq_true rfl) (L0 := [some (.ref f), some (.ref q), none]) rfl ?_
  intro M cx hl9 hq hin hnx
  refine a_aload_n cx dX2_checkFree_0 rfl ?_
  refine a_aload_n cx dX2_checkFree_1 rfl ?_
  refine c_V cx (f2_hutAt cx.htr hF hn hm hP hx hy hp) (lw_V q1210 q1212 qs10 q78 q1213) dn_X2_hutAt (RN.of rfl rfl rfl rfl) rfl hF.o rfl rfl rfl (Nat.le_of_ble_eq_true rfl) dX2_checkFree_2 (Nat.le_of_ble_eq_true rfl) (Nat.le_of_ble_eq_true rfl) (pK ?_) (fun E9 q9 h9 hx9 => hx9.elim)
  refine a_istore_n cx dX2_checkFree_5 (Nat.le_of_ble_eq_true rfl) rfl ?_
  rcases hat : hutAt s x y with _ | j
  · skip
    refine a_iload_n cx dX2_checkFree_6 rfl ?_
    refine a_iconst cx (v := -1) dX2_checkFree_7 (by decide) ?_
    refine a_icmp_ne cx (tgt := 15) dX2_checkFree_8 (by decide) (fun c8 => absurd rfl c8) (fun c8 => ?_)
    refine a_iconst cx (v := 1) dX2_checkFree_11 (by decide) ?_
    refine a_goto cx (tgt := 16) dX2_checkFree_12 (by decide) ?_
    refine a_iconst cx (v := 2) dX2_checkFree_16 (by decide) ?_
    refine a_iload_n cx dX2_checkFree_17 rfl ?_
    refine c_S cx (f7_check (r := 2) (d := -1) cx.htr) (lw_S q1169 q1170 q106 q1171) dn_X7_check (RN.of rfl rfl rfl rfl) rfl rfl (Nat.le_of_ble_eq_true rfl) dX2_checkFree_18 (Nat.le_of_ble_eq_true rfl) (Nat.le_of_ble_eq_true rfl) (fun v9 h hp9 => ?_) (fun E9 q9 h9 hx9 => (absurd hx9.2.2.2.2 (by decide)))
    obtain ⟨rfl, e18, ck18⟩ := hp9
    rw [e18]
    exact a_vret cx hq dX2_checkFree_21 ⟨rfl, rfl, hat⟩ (Nat.le_of_ble_eq_true rfl) (Nat.le_of_ble_eq_true rfl)
  · have hj := hAt_lt hat
    refine a_iload_n cx dX2_checkFree_6 rfl ?_
    refine a_iconst cx (v := -1) dX2_checkFree_7 (by decide) ?_
    refine a_icmp_ne cx (tgt := 15) dX2_checkFree_8 (by decide) (fun c8 => ?_) (fun c8 => absurd c8 (oI_s (by omega)))
    refine a_iconst cx (v := 0) dX2_checkFree_15 (by decide) ?_
    refine a_iconst cx (v := 2) dX2_checkFree_16 (by decide) ?_
    refine a_iload_n cx dX2_checkFree_17 rfl ?_
    refine c_S cx (f7_check (r := 2) (d := nI j) cx.htr) (lw_S q1169 q1170 q106 q1171) dn_X7_check (RN.of rfl rfl rfl rfl) rfl rfl (Nat.le_of_ble_eq_true rfl) dX2_checkFree_18 (Nat.le_of_ble_eq_true rfl) (Nat.le_of_ble_eq_true rfl) (fun v9 h hp9 => ?_) (fun E9 q9 h9 hx9 => AX.out cx hq hnx ⟨j, hat, hx9.1, hx9.2.1, hx9.2.2.1, hx9.2.2.2.1, trivial⟩ (Nat.le_of_ble_eq_true rfl) (Nat.le_of_ble_eq_true rfl))
    obtain ⟨rfl, e18, ck18⟩ := hp9
    exact absurd rfl ck18
abbrev rm_X2_set : Room := { frames := 16, cells := 10, slots := 200, locals := 340 }
set_option maxHeartbeats 4000000 in
theorem f2_set {lx : Launch} {g : GP} {h : AH} (htr : lx.stackTraces = false) {hb : AH} {f a ea ca b eb cb d : Nat} {ma mb : Int32} {ls lh : List Nat} {s : SF} (hF : FA g hb h f s a ea ma ca b eb mb cb d ls lh) (hWF : WF s) {x y : Int32} : KT lx g yX2_set (ws_ yX2_set cX2_set 5 (some .int)) rm_X2_set 10 200 [.ref f, .int x, .int y] h (PA g hb f (setsA s x y)) (XA g hb (setsA s x y) exIA) := by
  refine KT.of (by decide +kernel) htr (Nat.le_of_ble_eq_true rfl) (L0 := [some (.ref f), some (.int x), some (.int y), none, none]) rfl ?_
  intro M cx hl9 hq hin hnx
  have hR1 : rm_X2_set.cells = 10 := rfl
  have hR2 : rm_X2_set.slots = 200 := rfl
  refine AW.hk fun hk9 => ?_
  have hS := hWF.1
  have hP := hWF.2.2
  have hn := hS.2.1
  have hm := hS.2.2.2
  refine a_iconst cx (v := 2) dX2_set_0 (by decide) ?_
  refine a_newaI cx dX2_set_1 (show (2 : Int32) = nI 2 from rfl) (by decide) (by omega) (by omega) (fun p n1 hB1 => ?_)
  have hF1 := hF.up (sub.new n1 (e := eI (g.2.1 0) 2 (fun _ => 0)))
  refine a_dup cx dX2_set_3 rfl ?_
  refine a_iconst cx (v := 0) dX2_set_4 (by decide) ?_
  refine a_iload_n cx dX2_set_5 rfl ?_
  refine a_iast cx dX2_set_6 (hset_s _ _ _) (show (0 : Int32) = nI 0 from rfl) (by omega) (by omega) ?_
  rw [hset_hset]
  refine a_dup cx dX2_set_7 rfl ?_
  refine a_iconst cx (v := 1) dX2_set_8 (by decide) ?_
  refine a_iload_n cx dX2_set_9 rfl ?_
  refine a_iast cx dX2_set_10 (hset_s _ _ _) (show (1 : Int32) = nI 1 from rfl) (by omega) (by omega) ?_
  rw [hset_hset]
  refine c_SN cx (f1_checkPlaces cx.htr (hset_s _ _ _)) (lw_meth q1156) q77 q1154 q1155 dn_X1_checkPlaces (RN.of rfl rfl rfl rfl) rfl rfl (Nat.le_of_ble_eq_true rfl) dX2_set_11 (by omega) (by omega) (fun v9 h hp9 => ?_) (fun E9 q9 h9 hx9 => AX.out cx hq hnx (XA.thr (hF.ss.tr (sub.new n1)) hx9 (fun z => ⟨by rw [setsA_x (x := x) (y := y) z]; exact m1_neg, by rw [setsA_x (x := x) (y := y) z]; first | done | rfl | decide⟩)) (by omega) (by omega))
  obtain ⟨rfl, e11, kx, ky⟩ := hp9
  rw [e11]
  replace kx : inP x = true := kx
  replace ky : inP y = true := ky
  refine AW.hm (sub.new n1) (fun _ => hk9) ?_
  refine a_iload_n cx dX2_set_14 rfl ?_
  refine a_iload_n cx dX2_set_15 rfl ?_
  refine c_S cx (f8_at cx.htr) (lw_S q1205 q712 q107 q713) dn_X8_at (RN.of rfl rfl rfl rfl) rfl rfl (Nat.le_of_ble_eq_true rfl) dX2_set_16 (by omega) (by omega) (fun v9 h hp9 => ?_) (fun E9 q9 h9 hx9 => hx9.elim)
  obtain ⟨q9, nq, hBq, rfl, rfl⟩ := hp9
  have hF1 := hF.up (sub.new nq (e := plE x y))
  refine a_astore_n cx dX2_set_19 (Nat.le_of_ble_eq_true rfl) rfl ?_
  refine a_aload_n cx dX2_set_20 rfl ?_
  refine a_aload_n cx dX2_set_21 rfl ?_
  refine c_V cx (f2_checkFree cx.htr hF1 hn hm hP (inP_PL kx) (inP_PL ky) (hset_s _ _ _)) (lw_V q1206 q1208 qs9 q78 q1209) dn_X2_checkFree (RN.of rfl rfl rfl rfl) rfl hF1.o rfl rfl rfl (Nat.le_of_ble_eq_true rfl) dX2_set_22 (by omega) (by omega) (fun v9 h hp9 => ?_) (fun E9 q9 h9 hx9 => AX.out cx hq hnx (hx9.elim fun j z => XA.ref hF1.ss z.2 (fun _ => by rw [setsA_t kx ky z.1]; exact ⟨rfl, rfl⟩) (by decide)) (by omega) (by omega))
  obtain ⟨rfl, e22, hat⟩ := hp9
  rw [e22]
  refine a_aload_n cx dX2_set_25 rfl ?_
  refine a_get cx fl_X2_18.g dX2_set_26 hF1.o (by exact rfl) ?_
  refine c_V cx (j2_size cx.htr hF1.lb.1) (lw_V q638 q274 q275 q81 q276) dn_J2_size (RN.of rfl rfl rfl rfl) rfl hF1.lb.1 rfl rfl rfl (Nat.le_of_ble_eq_true rfl) dX2_set_29 (by omega) (by omega) (pK ?_) (fun E9 q9 h9 hx9 => hx9.elim)
  refine AW.topi (congrArg nI hF1.nh) ?_
  refine a_bipush cx (v := 6) dX2_set_32 (by decide) ?_
  refine a_icmp_ge cx (tgt := 41) dX2_set_34 (by decide) (fun c34 => ?_) (fun c34 => ?_)
  · have d34 : nH s = 6 := by have := le_nI (a := 6) c34 (by omega) (by omega); omega
    have hA := setsA_n (s := s) kx ky hat
    rw [if_pos d34] at hA
    refine a_iconst cx (v := 0) dX2_set_41 (by decide) ?_
    refine a_iconst cx (v := 1) dX2_set_42 (by decide) ?_
    refine a_bipush cx (v := 6) dX2_set_43 (by decide) ?_
    refine c_S cx (f7_check (r := 1) (d := 6) cx.htr) (lw_S q1169 q1170 q106 q1171) dn_X7_check (RN.of rfl rfl rfl rfl) rfl rfl (Nat.le_of_ble_eq_true rfl) dX2_set_45 (by omega) (by omega) (fun v9 h hp9 => ?_) (fun E9 q9 h9 hx9 => AX.out cx hq hnx (XA.ref hF1.ss hx9 (fun _ => by rw [hA]; exact ⟨rfl, rfl⟩) (by decide)) (by omega) (by omega))
    obtain ⟨rfl, e45, ck45⟩ := hp9
    exact absurd rfl ck45
  · have d34 : nH s < 6 := nle_nI (a := 6) c34 (by omega) (by omega)
    have hA := setsA_n (s := s) kx ky hat
    rw [if_neg (by omega)] at hA
    refine a_iconst cx (v := 1) dX2_set_37 (by decide) ?_
    refine a_goto cx (tgt := 42) dX2_set_38 (by decide) ?_
    refine a_iconst cx (v := 1) dX2_set_42 (by decide) ?_
    refine a_bipush cx (v := 6) dX2_set_43 (by decide) ?_
    refine c_S cx (f7_check (r := 1) (d := 6) cx.htr) (lw_S q1169 q1170 q106 q1171) dn_X7_check (RN.of rfl rfl rfl rfl) rfl rfl (Nat.le_of_ble_eq_true rfl) dX2_set_45 (by omega) (by omega) (fun v9 h hp9 => ?_) (fun E9 q9 h9 hx9 => (absurd hx9.2.2.2.2 (by decide)))
    obtain ⟨rfl, e45, ck45⟩ := hp9
    rw [e45]
    refine a_aload_n cx dX2_set_48 rfl ?_
    refine a_get cx fl_X2_18.g dX2_set_49 hF1.o (by exact rfl) ?_
    refine a_new cx nl_X2_50 dX2_set_52 (by omega) (by omega) (fun y9 n52 hB52 => ?_)
    have hqy : q9 ≠ y9 := fun z => by rw [← z, hset_s] at n52; cases n52
    refine a_dup cx dX2_set_55 rfl ?_
    refine a_aload_n cx dX2_set_56 rfl ?_
    refine c_I cx (f5_initp (w := 0) (u := 0) cx.htr (hset_s _ _ _) ((hset_n hqy).trans (hset_s _ _ _)) hqy) (lw_meth q567) q100 q565 q566 rfl dn_X5_init (RN.of rfl rfl rfl rfl) rfl rfl (Nat.le_of_ble_eq_true rfl) dX2_set_57 (by omega) (by omega) (pV ?_) (fun E9 q9 h9 hx9 => hx9.elim)
    rw [hset_hset]
    have hF2 := hF1.up (sub.new n52 (e := huE x y))
    refine c_V cx (j2_add cx.htr hF2.lb (by rw [hF2.nh]; omega) (isOb_hu (hset_s _ _ _)) (fun z => by have := hF1.lb.1; rw [← z, n52] at this; cases this) (fun y hy => by obtain ⟨k2, hk2, e⟩ := gD_mem hy; rw [← e]; exact isOb_hu (hF2.hu (by rw [← hF2.nh]; exact hk2))) (fun hy => by obtain ⟨k2, hk2, e⟩ := gD_mem hy; have := hF2.hu (j := k2) (by rw [← hF2.nh]; exact hk2); rw [e, hF2.lb.1] at this; cases this)) (lw_V q492 q493 q494 q81 q495) dn_J2_add (RN.of rfl rfl rfl rfl) rfl hF2.lb.1 rfl rfl rfl (Nat.le_of_ble_eq_true rfl) dX2_set_60 (by omega) (by omega) (fun v9 h hp9 => ?_) (fun E9 q9 h9 hx9 => hx9.elim)
    obtain ⟨rfl, hA9⟩ := hp9
    refine AW.hk fun hk8 => ?_
    obtain ⟨eb3, cb3, hF3⟩ := hF2.sets (s' := upd (upd (upd s (81 + nH s) x) (87 + nH s) y) 1 (nI (nH s + 1))) (x := y9) (by rw [upd_n (by omega), upd_n (by omega), upd_s, upd_n (by omega), upd_s]; exact hset_s _ _ _) (hF1.ss.none n52) (fun k2 hk2 z => by have := hF1.hu hk2; rw [z, n52] at this; cases this) hA9 hk8.2.2.1 d34 hn (upd_s _ _ _) (fun q h0 h1 h2 => by rw [upd_n h0, upd_n h2, upd_n h1])
    refine a_istore cx dX2_set_63 (Nat.le_of_ble_eq_true rfl) rfl ?_
    refine a_aload_n cx dX2_set_65 rfl ?_
    refine a_get cx fl_X2_18.g dX2_set_66 hF3.o (by exact rfl) ?_
    refine c_V cx (j2_size cx.htr hF3.lb.1) (lw_V q638 q274 q275 q81 q276) dn_J2_size (RN.of rfl rfl rfl rfl) rfl hF3.lb.1 rfl rfl rfl (Nat.le_of_ble_eq_true rfl) dX2_set_69 (by omega) (by omega) (pK ?_) (fun E9 q9 h9 hx9 => hx9.elim)
    refine AW.topi (show _ = nI (nH s + 1) from congrArg nI (by rw [List.length_append, hF.nh]; rfl)) ?_
    refine a_iconst cx (v := 1) dX2_set_72 (by decide) ?_
    refine a_isub cx dX2_set_73 ?_
    refine AW.topi (show _ = nI (nH s) from (show nI (nH s + 1) - nI 1 = _ from pk_sub (by omega))) ?_
    exact a_iret cx hq dX2_set_74 ⟨by rw [hA], by rw [hA], by rw [hA]; exact hF3.w⟩ (by omega) (by omega)
theorem goesA_x {s : SF} {u : Int32} (h : isIx u (nS s) = false) : goesA s u = (-1, 0, s) := if_neg (by rw [h]; decide)
theorem goesA_k {s : SF} {k : Nat} (hk : k < nS s) (hn : nS s ≤ 18) : goesA s (nI k) = (0, s (63 + k), goesS s k) := by
  unfold goesA
  rw [if_pos ((isIx_iff (by omega)).mpr ⟨k, hk, rfl⟩), oN_nI (by omega)]
theorem goesS_m {s : SF} {i : Nat} (hi : i < nS s) (hn : nS s ≤ 18) {b : Nat} (hb : b = 9 ∨ b = 27 ∨ b = 45 ∨ b = 63) {k : Nat} (hk : k < nS s - 1) : goesS s i (b + k) = if k < i then s (b + k) else s (b + k + 1) := by
  unfold goesS
  try dsimp only
  rw [upd_n (by omega), upd_n (by omega), upd_n (by omega), upd_n (by omega), upd_n (by omega), goesL_at hb _ _ (by omega) (by omega)]
  by_cases h : k < i
  · rw [if_pos h, if_neg (by omega)]
  · rw [if_neg h, if_pos (by omega)]
theorem goesS_q {s : SF} {i q : Nat} (hi : i < nS s) (hn : nS s ≤ 18) (h0 : q ≠ 0) (hq : q < 9 ∨ 81 ≤ q) : goesS s i q = s q := by
  unfold goesS
  try dsimp only
  rw [upd_n h0, upd_n (by omega), upd_n (by omega), upd_n (by omega), upd_n (by omega), goesL_n hq _ (by omega)]
abbrev rm_X2_leave : Room := { frames := 14, cells := 4, slots := 40, locals := 300 }
set_option maxHeartbeats 4000000 in
theorem f2_leave {lx : Launch} {g : GP} {h : AH} (htr : lx.stackTraces = false) {hb : AH} {f a ea ca b eb cb d : Nat} {ma mb : Int32} {ls lh : List Nat} {s : SF} (hF : FA g hb h f s a ea ma ca b eb mb cb d ls lh) (hWF : WF s) {u : Int32} : KT lx g yX2_leave (ws_ yX2_leave cX2_leave 4 (some .int)) rm_X2_leave 4 40 [.ref f, .int u] h (PA g hb f (goesA s u)) (XA g hb (goesA s u) exIO) := by
  refine KT.of (by decide +kernel) htr (Nat.le_of_ble_eq_true rfl) (L0 := [some (.ref f), some (.int u), none, none]) rfl ?_
  intro M cx hl9 hq hin hnx
  have hR1 : rm_X2_leave.cells = 4 := rfl
  have hR2 : rm_X2_leave.slots = 40 := rfl
  refine AW.hk fun hk9 => ?_
  have hS := hWF.1
  have hP := hWF.2.2
  have hn := hS.2.1
  have hm := hS.2.2.2
  refine a_aload_n cx dX2_leave_0 rfl ?_
  refine a_iload_n cx dX2_leave_1 rfl ?_
  refine c_V cx (f2_sheep cx.htr hF hn) (lw_V q1218 q1219 q1220 q78 q1221) dn_X2_sheep (RN.of rfl rfl rfl rfl) rfl hF.o rfl rfl rfl (Nat.le_of_ble_eq_true rfl) dX2_leave_2 (by omega) (by omega) (fun v9 h hp9 => ?_) (fun E9 q9 h9 hx9 => AX.out cx hq hnx (XA.thr hF.ss hx9 (fun z => ⟨by rw [goesA_x z]; exact m1_neg, by rw [goesA_x z]; first | done | rfl | decide⟩)) (by omega) (by omega))
  obtain ⟨k, hk, ek, rfl, e2⟩ := hp9
  rw [e2]
  subst ek
  refine a_astore_n cx dX2_leave_5 (Nat.le_of_ble_eq_true rfl) rfl ?_
  refine a_aload_n cx dX2_leave_6 rfl ?_
  refine a_get cx fl_X2_12.g dX2_leave_7 hF.o (by exact rfl) ?_
  refine a_aload_n cx dX2_leave_10 rfl ?_
  refine c_V cx (j2_remove (i := k) cx.htr hF.la (fun y hy => by obtain ⟨k2, hk2, e⟩ := gD_mem hy; rw [← e]; exact isOb_sh (hF.sh (by rw [← hF.nl]; exact hk2))) (fun hy => by obtain ⟨k2, hk2, e⟩ := gD_mem hy; have := hF.sh (k := k2) (by rw [← hF.nl]; exact hk2); rw [e, hF.la.1] at this; cases this) (hF.sh hk) (fi_nodup hF.ds (by rw [hF.nl]; exact hk))) (lw_V q1240 q1241 q1242 q81 q1243) dn_J2_remove (RN.of rfl rfl rfl rfl) rfl hF.la.1 rfl rfl rfl (Nat.le_of_ble_eq_true rfl) dX2_leave_11 (by omega) (by omega) (fun v9 h hp9 => ?_) (fun E9 q9 h9 hx9 => hx9.elim)
  obtain ⟨rfl, hR⟩ := hp9
  have hA := goesA_k (s := s) hk hn
  have hF3 := hF.goes (s' := goesS s k) hk hR hk9.2.2.1 hn (upd_s _ _ _) (fun k2 hk2 => ⟨goesS_m hk hn (by omega) hk2, goesS_m hk hn (by omega) hk2, goesS_m hk hn (by omega) hk2, goesS_m hk hn (by omega) hk2⟩) (fun q h0 hq => goesS_q hk hn h0 hq)
  have hsh : (h : AH) (ls.getD k 0) = some (shE (s (9 + k)) (s (27 + k)) (s (45 + k)) (s (63 + k))) := (hR.2 _ (fun z => by have := hF.sh hk; rw [z, hF.la.1] at this; cases this) (fun z => by obtain ⟨fn, h9⟩ := hF.la.arr; have := hF.sh hk; rw [z, h9] at this; cases this)).trans (hF.sh hk)
  refine a_istore_n cx dX2_leave_14 (Nat.le_of_ble_eq_true rfl) rfl ?_
  refine a_aload_n cx dX2_leave_15 rfl ?_
  refine a_get cx fl_X2_107.g dX2_leave_16 hsh (by exact rfl) ?_
  exact a_iret cx hq dX2_leave_19 ⟨by rw [hA], by rw [hA], by rw [hA]; exact hF3.w⟩ (by omega) (by omega)
theorem weighsA_x {s : SF} {u w : Int32} (h : isIx u (nS s) = false) : weighsA s u w = (-1, 0, s) := if_neg (by rw [h]; decide)
theorem weighsA_w {s : SF} {k : Nat} {w : Int32} (hk : k < nS s) (hn : nS s ≤ 18) (h : inR w 1 9 = false) : weighsA s (nI k) w = (-2, 0, s) := by
  unfold weighsA
  rw [if_pos ((isIx_iff (by omega)).mpr ⟨k, hk, rfl⟩), h]; rfl
theorem weighsA_k {s : SF} {k : Nat} {w : Int32} (hk : k < nS s) (hn : nS s ≤ 18) (h : inR w 1 9 = true) : weighsA s (nI k) w = if s (45 + k) = w then (7, w, s) else (0, s (45 + k), upd s (45 + k) w) := by
  unfold weighsA
  rw [if_pos ((isIx_iff (by omega)).mpr ⟨k, hk, rfl⟩), if_pos h, oN_nI (by omega)]
abbrev rm_X2_weigh : Room := { frames := 14, cells := 6, slots := 60, locals := 300 }
set_option maxHeartbeats 4000000 in
theorem f2_weigh {lx : Launch} {g : GP} {h : AH} (htr : lx.stackTraces = false) {hb : AH} {f a ea ca b eb cb d : Nat} {ma mb : Int32} {ls lh : List Nat} {s : SF} (hF : FA g hb h f s a ea ma ca b eb mb cb d ls lh) (hWF : WF s) {u w : Int32} : KT lx g yX2_weigh (ws_ yX2_weigh cX2_weigh 5 (some .int)) rm_X2_weigh 6 60 [.ref f, .int u, .int w] h (PA g hb f (weighsA s u w)) (XA g hb (weighsA s u w) exMv) := by
  refine KT.of (by decide +kernel) htr (Nat.le_of_ble_eq_true rfl) (L0 := [some (.ref f), some (.int u), some (.int w), none, none]) rfl ?_
  intro M cx hl9 hq hin hnx
  have hR1 : rm_X2_weigh.cells = 6 := rfl
  have hR2 : rm_X2_weigh.slots = 60 := rfl
  refine AW.hk fun hk9 => ?_
  have hS := hWF.1
  have hP := hWF.2.2
  have hn := hS.2.1
  have hm := hS.2.2.2
  refine a_aload_n cx dX2_weigh_0 rfl ?_
  refine a_iload_n cx dX2_weigh_1 rfl ?_
  refine c_V cx (f2_sheep cx.htr hF hn) (lw_V q1218 q1219 q1220 q78 q1221) dn_X2_sheep (RN.of rfl rfl rfl rfl) rfl hF.o rfl rfl rfl (Nat.le_of_ble_eq_true rfl) dX2_weigh_2 (by omega) (by omega) (fun v9 h hp9 => ?_) (fun E9 q9 h9 hx9 => AX.out cx hq hnx (XA.thr hF.ss hx9 (fun z => ⟨by rw [weighsA_x z]; exact m1_neg, by rw [weighsA_x z]; first | done | rfl | decide⟩)) (by omega) (by omega))
  obtain ⟨k, hk, ek, rfl, e2⟩ := hp9
  rw [e2]
  subst ek
  refine a_astore_n cx dX2_weigh_5 (Nat.le_of_ble_eq_true rfl) rfl ?_
  refine a_iload_n cx dX2_weigh_6 rfl ?_
  refine a_i2l cx dX2_weigh_7 rfl ?_
  refine a_lconst cx (v := 1) dX2_weigh_8 (by decide) ?_
  refine a_ldc2 cx q1167 dX2_weigh_9 ?_
  refine c_SN cx (f1_inRange (x := w) (y := 1) (z := 9) cx.htr) (lw_meth q795) q77 q793 q794 dn_X1_inRange (RN.of rfl rfl rfl rfl) rfl rfl (Nat.le_of_ble_eq_true rfl) dX2_weigh_12 (by omega) (by omega) (pK ?_) (fun E9 q9 h9 hx9 => hx9.elim)
  refine c_SN cx (f1_checkArgument cx.htr) (lw_meth q1161) q77 q1168 q1160 dn_X1_checkArgument (RN.of rfl rfl rfl rfl) rfl rfl (Nat.le_of_ble_eq_true rfl) dX2_weigh_15 (by omega) (by omega) (fun v9 h hp9 => ?_) (fun E9 q9 h9 hx9 => AX.out cx hq hnx (XA.thr hF.ss hx9 (fun z => ⟨by rw [weighsA_w hk hn ((bI_0 _).mp z)]; exact m2_neg, by rw [weighsA_w hk hn ((bI_0 _).mp z)]; first | done | rfl | decide⟩)) (by omega) (by omega))
  obtain ⟨rfl, e15, ck15⟩ := hp9
  rw [e15]
  have k15 := bI_n0 ck15
  have hA := weighsA_k (s := s) hk hn k15
  refine a_aload_n cx dX2_weigh_18 rfl ?_
  refine a_get cx fl_X2_172.g dX2_weigh_19 (hF.sh hk) (by exact rfl) ?_
  refine a_istore cx dX2_weigh_22 (Nat.le_of_ble_eq_true rfl) rfl ?_
  refine a_iload cx dX2_weigh_24 rfl ?_
  refine a_iload_n cx dX2_weigh_26 rfl ?_
  refine a_icmp_eq cx (tgt := 34) dX2_weigh_27 (by decide) (fun c27 => ?_) (fun c27 => ?_)
  · rw [if_pos c27] at hA
    refine a_iconst cx (v := 0) dX2_weigh_34 (by decide) ?_
    refine a_bipush cx (v := 7) dX2_weigh_35 (by decide) ?_
    refine a_iload cx dX2_weigh_37 rfl ?_
    refine c_S cx (f7_check (r := 7) (d := s (45 + k)) cx.htr) (lw_S q1169 q1170 q106 q1171) dn_X7_check (RN.of rfl rfl rfl rfl) rfl rfl (Nat.le_of_ble_eq_true rfl) dX2_weigh_39 (by omega) (by omega) (fun v9 h hp9 => ?_) (fun E9 q9 h9 hx9 => AX.out cx hq hnx (XA.ref hF.ss hx9 (fun _ => by rw [hA]; exact ⟨rfl, c27.symm⟩) (by decide)) (by omega) (by omega))
    obtain ⟨rfl, e39, ck39⟩ := hp9
    exact absurd rfl ck39
  · rw [if_neg c27] at hA
    refine a_iconst cx (v := 1) dX2_weigh_30 (by decide) ?_
    refine a_goto cx (tgt := 35) dX2_weigh_31 (by decide) ?_
    refine a_bipush cx (v := 7) dX2_weigh_35 (by decide) ?_
    refine a_iload cx dX2_weigh_37 rfl ?_
    refine c_S cx (f7_check (r := 7) (d := s (45 + k)) cx.htr) (lw_S q1169 q1170 q106 q1171) dn_X7_check (RN.of rfl rfl rfl rfl) rfl rfl (Nat.le_of_ble_eq_true rfl) dX2_weigh_39 (by omega) (by omega) (fun v9 h hp9 => ?_) (fun E9 q9 h9 hx9 => (absurd hx9.2.2.2.2 (by decide)))
    obtain ⟨rfl, e39, ck39⟩ := hp9
    rw [e39]
    refine a_aload_n cx dX2_weigh_42 rfl ?_
    refine a_iload_n cx dX2_weigh_43 rfl ?_
    refine a_put cx fl_X2_172 dX2_weigh_44 (hF.sh hk) rfl rfl (by exact (Nat.le_of_ble_eq_true rfl)) ?_
    have hF3 := hF.sheep (s' := upd s (45 + k) w) hk hn (fun q _ _ h3 _ => upd_n h3)
    rw [upd_n (show 9 + k ≠ 45 + k by omega), upd_n (show 27 + k ≠ 45 + k by omega), upd_s, upd_n (show 63 + k ≠ 45 + k by omega)] at hF3
    refine a_iload cx dX2_weigh_47 rfl ?_
    exact a_iret cx hq dX2_weigh_49 ⟨by rw [hA], by rw [hA], by rw [hA]; exact hF3.w⟩ (by omega) (by omega)
