/-! THE FIELD: one more hut; right or not -/
set_option maxRecDepth 100000
theorem FA.more {g : GP} {hb h h' : AH} {f : Nat} {s : SF} {a ea : Nat} {ma : Int32} {ca b eb : Nat} {mb mb' : Int32} {cb d : Nat} {ls lh : List Nat} (hF : FA g hb h f s a ea ma ca b eb mb cb d ls lh) {x : Nat} (hA : ADD g h b eb mb' lh x h') {fn : Nat → Option Nat} (kc : h' (gs g 0) = some (eQ (g.2.1 4) 0 fn)) :
    sub hb h' ∧ (∃ v4 v5 v6 v7, h' f = some (eO 1 [.ref a, .ref b, .ref d, v4, v5, v6, v7])) ∧ AL g h' a ea ma ca ls ∧ (∃ eb' cb', AL g h' b eb' mb' cb' (lh ++ [x])) ∧ ∀ q e, h q = some e → q ≠ b → (∀ m fn, e ≠ eQ (g.2.1 4) m fn) → h' q = some e := by
  obtain ⟨g0, g1, g2, g3, ⟨fd, g4, g5⟩, g6, g7, g8, g9, g10, g11, g12, g13, g14⟩ := hF
  obtain ⟨eb', cb', hA1, hA2, hA3⟩ := hA
  have hne0 := hA1.ne0 (by rw [List.length_append]; exact Nat.succ_pos _) kc
  obtain ⟨f1, ha1⟩ := g2.arr
  obtain ⟨f2, hb1⟩ := g3.arr
  have hkeep : ∀ q e, h q = some e → q ≠ b → (∀ m fn, e ≠ eQ (g.2.1 4) m fn) → h' q = some e := fun q e hq hqa he => hA3 q e hq hqa (fun z => absurd (Option.some.inj ((z ▸ hq).symm.trans hb1)) (he _ _))
  refine ⟨fun q e hq => ?_, ⟨_, _, _, _, hkeep f _ g1 (fun z => by rw [z, g3.1] at g1; cases g1) (fun m fn z => by cases z)⟩, ?_, ⟨eb', cb', hA1⟩, hkeep⟩
  · refine hA3 q e (g0 q e hq) (fun z => ?_) (fun z z2 => ?_)
    · rw [z, g14.2.2.1] at hq; cases hq
    · rcases g14.2.2.2.2.2.1 with z3 | z3
      · exact hne0 (z2.trans z3)
      · rw [z, z3] at hq; cases hq
  · refine g2.keep ((hkeep a _ g2.1 g12 (fun m fn z => by cases z)).trans g2.1.symm) ?_
    refine (hA3 ea _ ha1 (fun z => ?_) (fun z z2 => hne0 (z2.trans (z.symm.trans (g13 z))))).trans ha1.symm
    rw [z, g3.1] at ha1; cases ha1
def hxs (s : SF) (x : Int32) : Nat → Int32 := fun j => if j < nH s then s (81 + j) else x
def hys (s : SF) (y : Int32) : Nat → Int32 := fun j => if j < nH s then s (87 + j) else y
theorem hxs_lt {s : SF} {x : Int32} {j : Nat} (h : j < nH s) : hxs s x j = s (81 + j) := if_pos h
theorem hys_lt {s : SF} {y : Int32} {j : Nat} (h : j < nH s) : hys s y j = s (87 + j) := if_pos h
theorem hxs_n (s : SF) (x : Int32) : hxs s x (nH s) = x := if_neg (by omega)
theorem hys_n (s : SF) (y : Int32) : hys s y (nH s) = y := if_neg (by omega)
theorem fWith_ok (s : SF) (x y : Int32) (k : Nat) : ∃ m, m < nH s + 1 ∧ nrG (hxs s x) (hys s y) (s (9 + k)) (s (27 + k)) (nH s + 1) = some m ∧ dG (hxs s x) (hys s y) (s (9 + k)) (s (27 + k)) m = fWith s x y k := by
  have e1 := nrG_nr (s := s) (X := hxs s x) (Y := hys s y) (x := s (9 + k)) (y := s (27 + k)) (n := nH s) (fun j hj => hxs_lt hj) (fun j hj => hys_lt hj) (nH s) (Nat.le_refl _)
  have e2 : nr s (s (9 + k)) (s (27 + k)) (nH s) = nearO s k := rfl
  have e3 : dG (hxs s x) (hys s y) (s (9 + k)) (s (27 + k)) (nH s) = (s (9 + k) - x) * (s (9 + k) - x) + (s (27 + k) - y) * (s (27 + k) - y) := by unfold dG; rw [hxs_n, hys_n]
  rw [nrG, e1, e2]
  unfold fWith
  cases hn : nearO s k with
  | none => exact ⟨nH s, by omega, rfl, e3⟩
  | some b =>
    have hb := nearO_lt hn
    have e4 : dG (hxs s x) (hys s y) (s (9 + k)) (s (27 + k)) b = far s k b := by unfold dG far fTo; rw [hxs_lt hb, hys_lt hb]
    dsimp only
    rw [e3, e4]
    by_cases h : (s (9 + k) - x) * (s (9 + k) - x) + (s (27 + k) - y) * (s (27 + k) - y) < far s k b
    · rw [if_pos h]
      refine ⟨nH s, by omega, rfl, ?_⟩
      rw [e3, if_neg]
      exact fun z => Int32.not_lt.mpr (Int32.le_of_lt h) z
    · rw [if_neg h]
      refine ⟨b, by omega, rfl, ?_⟩
      rw [e4]
      by_cases h2 : far s k b < (s (9 + k) - x) * (s (9 + k) - x) + (s (27 + k) - y) * (s (27 + k) - y)
      · rw [if_pos h2]
      · rw [if_neg h2]
        exact Int32.le_antisymm (Int32.not_lt.mp h) (Int32.not_lt.mp h2)
abbrev rm_X2_spreadWith : Room := { frames := 18, cells := 60, slots := 2720, locals := 440 }
set_option maxHeartbeats 4000000 in
theorem f2_spreadWith {lx : Launch} {g : GP} {h : AH} (htr : lx.stackTraces = false) {hb : AH} {f a ea ca b eb cb d : Nat} {ma mb : Int32} {ls lh : List Nat} {s : SF} (hF : FA g hb h f s a ea ma ca b eb mb cb d ls lh) (hWF : WF s) {q : Nat} {x y : Int32} (hp : h q = some (plE x y)) : KT lx g yX2_spreadWith (ws_ yX2_spreadWith cX2_spreadWith 7 (some .int)) rm_X2_spreadWith 60 2720 [.ref f, .ref q] h (isP (.int (swt s x y (nS s))) h) (noX) := by
  refine KT.of (by decide +kernel) htr (Nat.le_of_ble_eq_true rfl) (L0 := [some (.ref f), some (.ref q), none, none, none, none, none]) rfl ?_
  intro M cx hl9 hq hin hnx
  have hR1 : rm_X2_spreadWith.cells = 60 := rfl
  have hR2 : rm_X2_spreadWith.slots = 2720 := rfl
  obtain ⟨hO, rfl⟩ : ∃ z, z = h := ⟨_, rfl⟩
  refine AW.hk fun hk9 => ?_
  have hS := hWF.1
  have hP := hWF.2.2
  have hn := hS.2.1
  have hm := hS.2.2.2
  refine a_aload_n cx dX2_spreadWith_0 rfl ?_
  refine c_V cx (f2_copy cx.htr hF hn hm hS) (lw_V q292 q293 q294 q78 q295) dn_X2_copy (RN.of rfl rfl rfl rfl) rfl hF.o rfl rfl rfl (Nat.le_of_ble_eq_true rfl) dX2_spreadWith_1 (by omega) (by omega) (fun v9 h hp9 => ?_) (fun E9 q9 h9 hx9 => hx9.elim)
  obtain ⟨f2, a2, ea2, ma2, ca2, b2, eb2, mb2, cb2, d2, ls2, lh2, rfl, hF2⟩ := hp9
  have hpq := hF2.ss _ _ hp
  refine a_astore_n cx dX2_spreadWith_4 (Nat.le_of_ble_eq_true rfl) rfl ?_
  refine a_aload_n cx dX2_spreadWith_5 rfl ?_
  refine a_get cx fl_X2_18.g dX2_spreadWith_6 hF2.o (by exact rfl) ?_
  refine a_new cx nl_X2_50 dX2_spreadWith_9 (by omega) (by omega) (fun y9 n9 hB9 => ?_)
  have hqy : q ≠ y9 := fun z => by rw [z, n9] at hpq; cases hpq
  refine a_dup cx dX2_spreadWith_12 rfl ?_
  refine a_aload_n cx dX2_spreadWith_13 rfl ?_
  refine c_I cx (f5_initp (w := 0) (u := 0) cx.htr (hset_s _ _ _) ((hset_n hqy).trans hpq) hqy) (lw_meth q567) q100 q565 q566 rfl dn_X5_init (RN.of rfl rfl rfl rfl) rfl rfl (Nat.le_of_ble_eq_true rfl) dX2_spreadWith_14 (by omega) (by omega) (pV ?_) (fun E9 q9 h9 hx9 => hx9.elim)
  rw [hset_hset]
  have hF3 := hF2.up (sub.new n9 (e := huE x y))
  refine c_V cx (j2_add cx.htr hF3.lb (by rw [hF3.nh]; omega) (isOb_hu (hset_s _ _ _)) (fun z => by have := hF2.lb.1; rw [← z, n9] at this; cases this) (fun y hy => by obtain ⟨k2, hk2, e⟩ := gD_mem hy; rw [← e]; exact isOb_hu (hF3.hu (by rw [← hF3.nh]; exact hk2))) (fun hy => by obtain ⟨k2, hk2, e⟩ := gD_mem hy; have := hF3.hu (j := k2) (by rw [← hF3.nh]; exact hk2); rw [e, hF3.lb.1] at this; cases this)) (lw_V q492 q493 q494 q81 q495) dn_J2_add (RN.of rfl rfl rfl rfl) rfl hF3.lb.1 rfl rfl rfl (Nat.le_of_ble_eq_true rfl) dX2_spreadWith_17 (by omega) (by omega) (fun v9 h hp9 => ?_) (fun E9 q9 h9 hx9 => hx9.elim)
  obtain ⟨rfl, hA9⟩ := hp9
  refine AW.hk fun hk8 => ?_
  obtain ⟨m1, ⟨v4, v5, v6, v7, m2⟩, m3, ⟨eb3, cb3, m4⟩, m5⟩ := hF3.more hA9 hk8.2.2.1
  have m6 : ∀ k, k < nS s → (h : AH) (ls2.getD k 0) = some (shE (s (9 + k)) (s (27 + k)) (s (45 + k)) (s (63 + k))) := fun k hk => m5 _ _ (hF3.sh hk) (fun z => by have := hF3.sh hk; rw [z, hF3.lb.1] at this; cases this) (fun m fn z => by cases z)
  have hll : (lh2 ++ [y9]).length = nH s + 1 := by rw [List.length_append, hF2.nh]; rfl
  have m7 : ∀ j, j < (lh2 ++ [y9]).length → (h : AH) ((lh2 ++ [y9]).getD j 0) = some (huE (hxs s x j) (hys s y j)) := fun j hj => by
    by_cases e : j < nH s
    · rw [gD_a (by rw [hF2.nh]; exact e), hxs_lt e, hys_lt e]
      exact m5 _ _ (hF3.hu e) (fun z => by have := hF3.hu e; rw [z, hF3.lb.1] at this; cases this) (fun m fn z => by cases z)
    · have ej : j = nH s := by omega
      rw [gD_b (by rw [hF2.nh]; exact ej), ej, hxs_n, hys_n]
      exact m5 y9 _ (hset_s _ _ _) (fun z => by have := hF2.lb.1; rw [← z, n9] at this; cases this) (fun m fn z => by cases z)
  obtain ⟨h2, eh2⟩ : ∃ z, z = h := ⟨_, rfl⟩
  rw [← eh2]
  rw [← eh2] at m1 m2 m3 m4 m6 m7
  refine a_istore_n cx dX2_spreadWith_20 (Nat.le_of_ble_eq_true rfl) rfl ?_
  refine a_iconst cx (v := 0) dX2_spreadWith_21 (by decide) ?_
  refine a_istore cx dX2_spreadWith_22 (Nat.le_of_ble_eq_true rfl) rfl ?_
  refine a_aload_n cx dX2_spreadWith_24 rfl ?_
  refine a_get cx fl_X2_12.g dX2_spreadWith_25 m2 (by exact rfl) ?_
  refine c_V cx (j2_iterator cx.htr m3.1) (lw_V q298 q299 q300 q81 q301) dn_J2_iterator (RN.of rfl rfl rfl rfl) rfl m3.1 rfl rfl rfl (Nat.le_of_ble_eq_true rfl) dX2_spreadWith_28 (by omega) (by omega) (fun v9 h hp9 => ?_) (fun E9 q9 h9 hx9 => hx9.elim)
  obtain ⟨it, n28, hB28, rfl, rfl⟩ := hp9
  refine a_astore cx dX2_spreadWith_31 (Nat.le_of_ble_eq_true rfl) rfl ?_
  have loop : ∀ (j0 k : Nat) (last : Int32) (h3 : AH), k ≤ nS s → nS s < k + j0 → sub h2 h3 → h3 it = some (itE (nI k) last ma2 a2) → AW g M 60 2700 33 [some (.ref f), some (.ref q), some (.ref f2), some (.int 1), some (.int (swt s x y k)), some (.ref it), none] [] h3 := by
    intro j0
    induction j0 with
    | zero => intro k last h3 b1 b2; omega
    | succ j0 ih =>
      intro k last h3 z1 z2 hs3 hit
      refine a_aload cx dX2_spreadWith_33 rfl ?_
      refine c_F cx (j8_hasNext cx.htr hit (hs3 _ _ m3.1) (by have := hF2.nl; omega) (by omega)) (lw_F q322 q333 q335 q88 q337) (by decide +kernel) ⟨by decide, by decide, by decide +kernel⟩ (RN.of rfl rfl rfl rfl) rfl hit rfl rfl rfl (Nat.le_of_ble_eq_true rfl) dX2_spreadWith_35 (by omega) (by omega) (pK ?_) (fun E9 q9 h9 hx9 => hx9.elim)
      refine a_if_eq cx (tgt := 90) dX2_spreadWith_40 (by decide) (fun c40 => ?_) (fun c40 => ?_)
      · have d0 : k = nS s := (bne_eq_false_iff_eq.mp ((bI_0 _).mp c40)).trans hF2.nl
        subst d0
        refine a_iload cx dX2_spreadWith_90 rfl ?_
        refine AW.hm (m1.tr hs3) (fun _ => hk9) ?_
        exact a_iret cx hq dX2_spreadWith_92 ⟨rfl, rfl⟩ (by omega) (by omega)
      · have d0 : k < nS s := by have q := bne_iff_ne.mp (bI_n0 c40); have := hF2.nl; omega
        refine a_aload cx dX2_spreadWith_43 rfl ?_
        refine c_F cx (j8_next cx.htr hit (m3.sub hs3) (by rw [hF2.nl]; exact d0)) (lw_F q339 q445 q447 q88 q449) (by decide +kernel) ⟨by decide, by decide, by decide +kernel⟩ (RN.of rfl rfl rfl rfl) rfl hit rfl rfl rfl (Nat.le_of_ble_eq_true rfl) dX2_spreadWith_45 (by omega) (by omega) (pK ?_) (fun E9 q9 h9 hx9 => hx9.elim)
        obtain ⟨h4, eh4⟩ : ∃ z, z = hset h3 it (itE (nI (k + 1)) (nI k) ma2 a2) := ⟨_, rfl⟩
        rw [← eh4]
        have hs4 : sub h2 h4 := by rw [eh4]; exact hs3.set n28
        have hit4 : h4 it = some (itE (nI (k + 1)) (nI k) ma2 a2) := by rw [eh4]; exact hset_s _ _ _
        have hsh := hs4 _ _ (m6 k d0)
        have ho4 := hs4 _ _ m2
        have hl4 := m4.sub hs4
        have hX4 : ∀ j, j < (lh2 ++ [y9]).length → h4 ((lh2 ++ [y9]).getD j 0) = some (huE (hxs s x j) (hys s y j)) := fun j hj => hs4 _ _ (m7 j hj)
        obtain ⟨m, hm1, hm2, hm3⟩ := fWith_ok s x y k
        refine a_castS (r := (RX4, TX4, 4)) cx q456 dX2_spreadWith_50 hsh rfl ?_
        refine a_astore cx dX2_spreadWith_53 (Nat.le_of_ble_eq_true rfl) rfl ?_
        refine a_iload cx dX2_spreadWith_55 rfl ?_
        refine a_aload cx dX2_spreadWith_57 rfl ?_
        refine a_get cx fl_X2_172.g dX2_spreadWith_59 hsh (by exact rfl) ?_
        refine a_aload cx dX2_spreadWith_62 rfl ?_
        refine a_aload_n cx dX2_spreadWith_64 rfl ?_
        refine a_get cx fl_X2_18.g dX2_spreadWith_65 ho4 (by exact rfl) ?_
        refine a_aload_n cx dX2_spreadWith_68 rfl ?_
        refine a_aload cx dX2_spreadWith_69 rfl ?_
        refine c_V cx (f2_nearestG cx.htr ho4 hl4 hX4 (by omega) hsh) (lw_V q634 q635 q636 q78 q637) dn_X2_nearest (RN.of rfl rfl rfl rfl) rfl ho4 rfl rfl rfl (Nat.le_of_ble_eq_true rfl) dX2_spreadWith_71 (by omega) (by omega) (pK ?_) (fun E9 q9 h9 hx9 => hx9.elim)
        refine AW.topi (show _ = nI m by rw [hll, hm2]; rfl) ?_
        refine c_V cx (j2_get (i := m) cx.htr hl4 (by omega)) (lw_V q639 q426 q427 q81 q428) dn_J2_get (RN.of rfl rfl rfl rfl) rfl hl4.1 rfl rfl rfl (Nat.le_of_ble_eq_true rfl) dX2_spreadWith_74 (by omega) (by omega) (pK ?_) (fun E9 q9 h9 hx9 => hx9.elim)
        refine a_castI (RX5, TX5, 2) cx q640 q577 dX2_spreadWith_77 (hX4 m (by omega)) rfl ?_
        refine c_VD (na := 1) cx (f8_distancesh (w2 := 0) (u2 := 0) cx.htr hsh (hX4 m (by omega))) (lw_meth q648) (List.mem_of_getElem? (i := 0) rfl) (List.mem_of_getElem? (i := 1) rfl) q644 q646 q107 (by decide +kernel) (RN.of rfl rfl rfl rfl) rfl (by decide +kernel) hsh rfl rfl rfl (Nat.le_of_ble_eq_true rfl) dX2_spreadWith_80 (by omega) (by omega) (pK ?_)
        refine AW.topi (show _ = fWith s x y k from hm3) ?_
        refine a_imul cx dX2_spreadWith_83 ?_
        refine a_iadd cx dX2_spreadWith_84 ?_
        refine a_istore cx dX2_spreadWith_85 (Nat.le_of_ble_eq_true rfl) rfl ?_
        refine a_goto cx (tgt := 33) dX2_spreadWith_87 (by decide) ?_
        have hgo := ih (k + 1) (nI k) h4 (by omega) (by omega) hs4 hit4
        refine AW.widen ?_ ?_ (AW.loc ?_ hgo)
        · omega
        · omega
        · exact ⟨rfl, rfl, rfl, rfl, rfl, rfl, trivial⟩
  exact AW.widen (by omega) (by omega) (AW.loc (show lle [some (.ref f), some (.ref q), some (.ref f2), some (.int 1), some (.int 0), some (.ref it), none] _ from ⟨rfl, rfl, rfl, rfl, rfl, rfl, trivial⟩) (loop (nS s + 1) 0 (-1) _ (Nat.zero_le _) (by omega) (sub.new n28) (hset_s _ _ _)))
/-- sums over the sheep, hut by hut -/
def sprn (s : SF) (n : Nat) : Nat → Int32
  | 0 => 0
  | j + 1 => sprn s n j + spr s j n
theorem sprn_sprs (s : SF) : ∀ m, sprn s (nS s) m = sprs s m := by
  intro m
  induction m with
  | zero => rfl
  | succ m ih => rw [sprn, sprs, ih]
theorem sprn_0 (s : SF) : ∀ m, sprn s 0 m = 0 := by
  intro m
  induction m with
  | zero => rfl
  | succ m ih => rw [sprn, ih]; rfl
theorem sprn_none {s : SF} {n : Nat} (h : s (63 + n) = -1) : ∀ m, m < 2 ^ 31 → sprn s (n + 1) m = sprn s n m := by
  intro m
  induction m with
  | zero => intro _; rfl
  | succ m ih => intro hm; rw [sprn, sprn, ih (by omega), spr, if_neg (fun z => ne_m1 (j := m) (by omega) (z.symm.trans h)), Int32.add_zero]
theorem sprn_some {s : SF} {n i : Nat} (h : s (63 + n) = nI i) (hi : i < 2 ^ 31) : ∀ m, m < 2 ^ 31 → sprn s (n + 1) m = sprn s n m + if i < m then s (45 + n) * far s n i else 0 := by
  intro m
  induction m with
  | zero => intro _; rfl
  | succ m ih =>
    intro hm
    rw [sprn, sprn, ih (by omega), spr]
    by_cases e : i = m
    · subst e; rw [if_pos h, if_neg (by omega), if_pos (by omega)]; grind
    · rw [if_neg (fun z => e (nI_inj hi (by omega) (h.symm.trans z)))]
      by_cases e2 : i < m
      · rw [if_pos e2, if_pos (by omega)]; grind
      · rw [if_neg e2, if_neg (by omega)]; grind
theorem sga_ok {s : SF} (hW : ∀ k, k < nS s → isO (s (63 + k)) (nH s)) (hm : nH s ≤ 6) : ∀ n, n ≤ nS s → sprn s n (nH s) = sga s n - 2 * sgb s n := by
  intro n
  induction n with
  | zero => intro _; rw [sprn_0]; show (0 : Int32) = 0 - 2 * 0; decide
  | succ n ih =>
    intro hn
    rcases hW n (by omega) with h | ⟨i, hi, h⟩
    · rw [sprn_none h _ (by omega), ih (by omega), sga, sgb, if_pos h, if_pos h]
    · rw [sprn_some h (by omega) _ (by omega), ih (by omega), if_pos hi, sga, sgb, if_neg (by rw [h]; exact ne_m1 (by omega)), if_neg (by rw [h]; exact ne_m1 (by omega)), h, oN_nI (by omega)]
      unfold far fTo
      grind
def cntn (s : SF) (n : Nat) : Nat → Nat
  | 0 => 0
  | j + 1 => cntn s n j + cnt s (nI j) n
theorem cntn_0 (s : SF) : ∀ m, cntn s 0 m = 0 := by
  intro m
  induction m with
  | zero => rfl
  | succ m ih => rw [cntn, ih]; rfl
theorem cntn_up {s : SF} {n : Nat} : ∀ m, m < 2 ^ 31 → (s (63 + n) = -1 → cntn s (n + 1) m = cntn s n m) ∧ ∀ i, i < 2 ^ 31 → s (63 + n) = nI i → cntn s (n + 1) m = cntn s n m + if i < m then 1 else 0 := by
  intro m
  induction m with
  | zero => intro _; exact ⟨fun _ => rfl, fun i _ _ => rfl⟩
  | succ m ih =>
    intro hm
    obtain ⟨i1, i2⟩ := ih (by omega)
    refine ⟨fun h => ?_, fun i hi h => ?_⟩
    · rw [cntn, cntn, i1 h, cnt, if_neg (fun z => ne_m1 (j := m) (by omega) (z.symm.trans h))]; rfl
    · rw [cntn, cntn, i2 i hi h, cnt]
      by_cases e : i = m
      · subst e; rw [if_pos h, if_neg (by omega), if_pos (by omega)]; omega
      · rw [if_neg (fun z => e (nI_inj hi (by omega) (h.symm.trans z)))]
        by_cases e2 : i < m
        · rw [if_pos e2, if_pos (by omega)]; omega
        · rw [if_neg e2, if_neg (by omega)]; omega
theorem fcn_cntn {s : SF} (hW : ∀ k, k < nS s → isO (s (63 + k)) (nH s)) (hm : nH s ≤ 6) : ∀ n, n ≤ nS s → cntn s n (nH s) = fcn s n := by
  intro n
  induction n with
  | zero => intro _; rw [cntn_0]; rfl
  | succ n ih =>
    intro hn
    rw [fcn, ← ih (by omega)]
    rcases hW n (by omega) with h | ⟨i, hi, h⟩
    · rw [(cntn_up (nH s) (by omega)).1 h, if_pos h]; rfl
    · rw [(cntn_up (nH s) (by omega)).2 i (by omega) h, if_pos hi, if_neg (by rw [h]; exact ne_m1 (by omega))]
theorem cntn_le (s : SF) (n : Nat) : ∀ {j m : Nat}, j ≤ m → cntn s n j ≤ cntn s n m := by
  intro j m
  induction m with
  | zero => intro h; rw [show j = 0 by omega]; exact Nat.le_refl _
  | succ m ih =>
    intro h
    by_cases e : j = m + 1
    · subst e; exact Nat.le_refl _
    · have := ih (by omega); rw [cntn]; omega
abbrev rm_X2_isRight : Room := { frames := 24, cells := 190, slots := 5300, locals := 560 }
set_option maxHeartbeats 4000000 in
theorem f2_isRight {lx : Launch} {g : GP} {h : AH} (htr : lx.stackTraces = false) {hb : AH} {f a ea ca b eb cb d : Nat} {ma mb : Int32} {ls lh : List Nat} {s : SF} (hF : FA g hb h f s a ea ma ca b eb mb cb d ls lh) (hWF : WF s) : KT lx g yX2_isRight (ws_ yX2_isRight cX2_isRight 5 (some .boolean)) rm_X2_isRight 190 5300 [.ref f] h (isP (.int (bI (qRight s))) h) (noX) := by
  refine KT.of (by decide +kernel) htr (Nat.le_of_ble_eq_true rfl) (L0 := [some (.ref f), none, none, none, none]) rfl ?_
  intro M cx hl9 hq hin hnx
  have hR1 : rm_X2_isRight.cells = 190 := rfl
  have hR2 : rm_X2_isRight.slots = 5300 := rfl
  refine AW.hk fun hk9 => ?_
  have hS := hWF.1
  have hP := hWF.2.2
  have hn := hS.2.1
  have hm := hS.2.2.2
  have hW := hWF.2.1.1
  have hfl := fcn_le s (nS s)
  refine a_iconst cx (v := 0) dX2_isRight_0 (by decide) ?_
  refine a_istore_n cx dX2_isRight_1 (Nat.le_of_ble_eq_true rfl) rfl ?_
  refine a_aload_n cx dX2_isRight_2 rfl ?_
  refine c_V cx (f2_spread cx.htr hF hn hm) (lw_V q790 q761 q762 q78 q763) dn_X2_spread (RN.of rfl rfl rfl rfl) rfl hF.o rfl rfl rfl (Nat.le_of_ble_eq_true rfl) dX2_isRight_3 (by omega) (by omega) (pK ?_) (fun E9 q9 h9 hx9 => hx9.elim)
  refine a_aload_n cx dX2_isRight_6 rfl ?_
  refine c_V cx (f2_spreadAgain cx.htr hF hn hm hW) (lw_V q791 q757 q758 q78 q759) dn_X2_spreadAgain (RN.of rfl rfl rfl rfl) rfl hF.o rfl rfl rfl (Nat.le_of_ble_eq_true rfl) dX2_isRight_7 (by omega) (by omega) (pK ?_) (fun E9 q9 h9 hx9 => hx9.elim)
  refine a_icmp_ne cx (tgt := 17) dX2_isRight_10 (by decide) (fun c10 => absurd (show sprs s (nH s) = _ by rw [← sprn_sprs]; exact sga_ok hW hm _ (Nat.le_refl _)) c10) (fun c10 => ?_)
  refine a_iconst cx (v := 1) dX2_isRight_13 (by decide) ?_
  refine a_goto cx (tgt := 18) dX2_isRight_14 (by decide) ?_
  refine a_istore_n cx dX2_isRight_18 (Nat.le_of_ble_eq_true rfl) rfl ?_
  refine a_aload_n cx dX2_isRight_19 rfl ?_
  refine a_get cx fl_X2_12.g dX2_isRight_20 hF.o (by exact rfl) ?_
  refine c_V cx (j2_iterator cx.htr hF.la.1) (lw_V q298 q299 q300 q81 q301) dn_J2_iterator (RN.of rfl rfl rfl rfl) rfl hF.la.1 rfl rfl rfl (Nat.le_of_ble_eq_true rfl) dX2_isRight_23 (by omega) (by omega) (fun v9 h hp9 => ?_) (fun E9 q9 h9 hx9 => hx9.elim)
  obtain ⟨it, n23, hB23, rfl, rfl⟩ := hp9
  refine a_astore_n cx dX2_isRight_26 (Nat.le_of_ble_eq_true rfl) rfl ?_
  have loop : ∀ (j0 k : Nat) (last : Int32) (h1 : AH), k ≤ nS s → nS s < k + j0 → sub h h1 → h1 it = some (itE (nI k) last ma a) → AW g M 20 100 27 [some (.ref f), some (.int (nI (fcn s k))), some (.int 1), some (.ref it), none] [] h1 := by
    intro j0
    induction j0 with
    | zero => intro k last h1 b1 b2; omega
    | succ j0 ih =>
      intro k last h1 b1 b2 hs hit
      have hF1 := hF.up hs
      refine a_aload_n cx dX2_isRight_27 rfl ?_
      refine c_F cx (j8_hasNext cx.htr hit hF1.la.1 (by have := hF.nl; omega) (by omega)) (lw_F q322 q333 q335 q88 q337) (by decide +kernel) ⟨by decide, by decide, by decide +kernel⟩ (RN.of rfl rfl rfl rfl) rfl hit rfl rfl rfl (Nat.le_of_ble_eq_true rfl) dX2_isRight_28 (by omega) (by omega) (pK ?_) (fun E9 q9 h9 hx9 => hx9.elim)
      refine a_if_eq cx (tgt := 92) dX2_isRight_33 (by decide) (fun c33 => ?_) (fun c33 => ?_)
      · have d0 : k = nS s := (bne_eq_false_iff_eq.mp ((bI_0 _).mp c33)).trans hF.nl
        subst d0
        refine AW.hm hs (fun _ => hk9) ?_
        refine a_iconst cx (v := 0) dX2_isRight_92 (by decide) ?_
        refine a_istore_n cx dX2_isRight_93 (Nat.le_of_ble_eq_true rfl) rfl ?_
        have loop2 : ∀ (j2 j : Nat), j ≤ nH s → nH s < j + j2 → AW g M (25 + 2 * j) (120 + 4 * j) 94 [some (.ref f), some (.int (nI (fcn s (nS s) - cntn s (nS s) j))), some (.int 1), some (.int (nI j)), none] [] h := by
          intro j2
          induction j2 with
          | zero => intro j b1 b2; omega
          | succ j2 ih2 =>
            intro j z3 z4
            refine a_iload_n cx dX2_isRight_94 rfl ?_
            refine a_aload_n cx dX2_isRight_95 rfl ?_
            refine a_get cx fl_X2_18.g dX2_isRight_96 hF.o (by exact rfl) ?_
            refine c_V cx (j2_size cx.htr hF.lb.1) (lw_V q638 q274 q275 q81 q276) dn_J2_size (RN.of rfl rfl rfl rfl) rfl hF.lb.1 rfl rfl rfl (Nat.le_of_ble_eq_true rfl) dX2_isRight_99 (by omega) (by omega) (pK ?_) (fun E9 q9 h9 hx9 => hx9.elim)
            refine AW.topi (congrArg nI hF.nh) ?_
            refine a_icmp_ge cx (tgt := 122) dX2_isRight_102 (by decide) (fun c102 => ?_) (fun c102 => ?_)
            · have d102 := le_nI c102 (by omega) (by omega)
              have e102 : j = nH s := by omega
              subst e102
              refine a_iload_n cx dX2_isRight_122 rfl ?_
              refine a_if_eq cx (tgt := 151) dX2_isRight_123 (by decide) (fun c123 => absurd c123 (by decide)) (fun c123 => ?_)
              refine a_iload_n cx dX2_isRight_126 rfl ?_
              refine a_if_ne cx (tgt := 151) dX2_isRight_127 (by decide) (fun c127 => absurd (show nI (fcn s (nS s) - cntn s (nS s) (nH s)) = 0 by rw [fcn_cntn hW hm _ (Nat.le_refl _), Nat.sub_self]; rfl) c127) (fun c127 => ?_)
              refine a_aload_n cx dX2_isRight_130 rfl ?_
              refine c_V cx (f2_isStill cx.htr hF hWF) (lw_V q751 q289 q290 q78 q291) dn_X2_isStill (RN.of rfl rfl rfl rfl) rfl hF.o rfl rfl rfl (Nat.le_of_ble_eq_true rfl) dX2_isRight_131 (by omega) (by omega) (pK ?_) (fun E9 q9 h9 hx9 => hx9.elim)
              refine a_if_eq cx (tgt := 147) dX2_isRight_134 (by decide) (fun c134 => ?_) (fun c134 => ?_)
              · have r : qRight s = true := by rw [qRight, (bI_0 _).mp c134]; rfl
                refine a_iconst cx (v := 1) dX2_isRight_147 (by decide) ?_
                refine a_goto cx (tgt := 152) dX2_isRight_148 (by decide) ?_
                exact a_zret cx hq dX2_isRight_152 rfl ⟨by rw [r]; rfl, rfl⟩ (by omega) (by omega)
              · have hst := bI_n0 c134
                refine a_aload_n cx dX2_isRight_137 rfl ?_
                refine c_V cx (f2_strays cx.htr hF hn hm hW) (lw_V q800 q775 q776 q78 q777) dn_X2_strays (RN.of rfl rfl rfl rfl) rfl hF.o rfl rfl rfl (Nat.le_of_ble_eq_true rfl) dX2_isRight_138 (by omega) (by omega) (fun v9 h hp9 => ?_) (fun E9 q9 h9 hx9 => hx9.elim)
                obtain ⟨q, edq, mq, cq, rfl, nq, hs2, hlq⟩ := hp9
                refine c_V cx (j2_isEmpty cx.htr hlq.1 (by rw [srl_len]; have := strm_le s (nS s); omega)) (lw_V q626 q627 q628 q81 q629) dn_J2_isEmpty (RN.of rfl rfl rfl rfl) rfl hlq.1 rfl rfl rfl (Nat.le_of_ble_eq_true rfl) dX2_isRight_141 (by omega) (by omega) (pK ?_) (fun E9 q9 h9 hx9 => hx9.elim)
                rw [srl_len]
                refine AW.hm hs2 (fun _ => hk9) ?_
                refine a_if_eq cx (tgt := 151) dX2_isRight_144 (by decide) (fun c144 => ?_) (fun c144 => ?_)
                · have r : qRight s = false := by rw [qRight, hst, (bI_0 _).mp c144]; rfl
                  refine a_iconst cx (v := 0) dX2_isRight_151 (by decide) ?_
                  exact a_zret cx hq dX2_isRight_152 rfl ⟨by rw [r]; rfl, rfl⟩ (by omega) (by omega)
                · have r : qRight s = true := by rw [qRight, hst, bI_n0 c144]; rfl
                  refine a_iconst cx (v := 1) dX2_isRight_147 (by decide) ?_
                  refine a_goto cx (tgt := 152) dX2_isRight_148 (by decide) ?_
                  exact a_zret cx hq dX2_isRight_152 rfl ⟨by rw [r]; rfl, rfl⟩ (by omega) (by omega)
            · have d102 := nle_nI c102 (by omega) (by omega)
              have hle := cntn_le s (nS s) (show j + 1 ≤ nH s by omega)
              rw [fcn_cntn hW hm _ (Nat.le_refl _)] at hle
              refine a_iload_n cx dX2_isRight_105 rfl ?_
              refine a_aload_n cx dX2_isRight_106 rfl ?_
              refine a_iload_n cx dX2_isRight_107 rfl ?_
              refine c_V cx (f2_flock (f := f) (u := nI j) cx.htr) (lw_V q659 q660 q661 q78 q662) dn_X2_flock (RN.of rfl rfl rfl rfl) rfl hF.o rfl rfl rfl (Nat.le_of_ble_eq_true rfl) dX2_isRight_108 (by omega) (by omega) (fun v9 h hp9 => ?_) (fun E9 q9 h9 hx9 => hx9.elim)
              obtain ⟨fl, rfl, nf, hBf, rfl⟩ := hp9
              have hF1 := hF.up (sub.new nf (e := flE (nI j) f))
              refine c_V cx (f10_count cx.htr hF1 hn (hset_s _ _ _)) (lw_V q796 q797 q798 q110 q799) dn_X10_count (RN.of rfl rfl rfl rfl) rfl (hset_s _ _ _) rfl rfl rfl (Nat.le_of_ble_eq_true rfl) dX2_isRight_111 (by omega) (by omega) (pK ?_) (fun E9 q9 h9 hx9 => hx9.elim)
              refine AW.hm (sub.new nf) (fun _ => hk9) ?_
              refine a_isub cx dX2_isRight_114 ?_
              refine AW.topi (show _ = nI (fcn s (nS s) - cntn s (nS s) (j + 1)) from (pk_sub (by rw [cntn] at hle; omega)).trans (by rw [cntn]; congr 1; omega)) ?_
              refine a_istore_n cx dX2_isRight_115 (Nat.le_of_ble_eq_true rfl) rfl ?_
              refine a_iincN cx dX2_isRight_116 rfl (Nat.le_of_ble_eq_true rfl) rfl ?_
              refine a_goto cx (tgt := 94) dX2_isRight_119 (by decide) ?_
              exact AW.widen (by omega) (by omega) (ih2 (j + 1) (by omega) (by omega))
        exact AW.widen (by omega) (by omega) (AW.loc (show lle [some (.ref f), some (.int (nI (fcn s (nS s)))), some (.int 1), some (.int (nI 0)), none] _ from ⟨rfl, rfl, rfl, rfl, trivial⟩) (loop2 (nH s + 1) 0 (Nat.zero_le _) (by omega)))
      · have d0 : k < nS s := by have q := bne_iff_ne.mp (bI_n0 c33); have := hF.nl; omega
        refine a_aload_n cx dX2_isRight_36 rfl ?_
        refine c_F cx (j8_next cx.htr hit hF1.la (by rw [hF.nl]; exact d0)) (lw_F q339 q445 q447 q88 q449) (by decide +kernel) ⟨by decide, by decide, by decide +kernel⟩ (RN.of rfl rfl rfl rfl) rfl hit rfl rfl rfl (Nat.le_of_ble_eq_true rfl) dX2_isRight_37 (by omega) (by omega) (pK ?_) (fun E9 q9 h9 hx9 => hx9.elim)
        obtain ⟨h2, eh2⟩ : ∃ z, z = hset h1 it (itE (nI (k + 1)) (nI k) ma a) := ⟨_, rfl⟩
        rw [← eh2]
        have hs2 : sub h h2 := by rw [eh2]; exact hs.set n23
        have hF2 := hF.up hs2
        have hit2 : h2 it = some (itE (nI (k + 1)) (nI k) ma a) := by rw [eh2]; exact hset_s _ _ _
        have hsh := hF2.sh d0
        refine a_castS (r := (RX4, TX4, 4)) cx q456 dX2_isRight_42 hsh rfl ?_
        refine a_astore cx dX2_isRight_45 (Nat.le_of_ble_eq_true rfl) rfl ?_
        refine a_iload_n cx dX2_isRight_47 rfl ?_
        refine a_aload cx dX2_isRight_48 rfl ?_
        refine a_get cx fl_X2_107.g dX2_isRight_50 hsh (by exact rfl) ?_
        refine a_i2l cx dX2_isRight_53 rfl ?_
        refine a_ldc2 cx q792 dX2_isRight_54 ?_
        refine a_aload_n cx dX2_isRight_57 rfl ?_
        refine a_get cx fl_X2_18.g dX2_isRight_58 hF2.o (by exact rfl) ?_
        refine c_V cx (j2_size cx.htr hF2.lb.1) (lw_V q638 q274 q275 q81 q276) dn_J2_size (RN.of rfl rfl rfl rfl) rfl hF2.lb.1 rfl rfl rfl (Nat.le_of_ble_eq_true rfl) dX2_isRight_61 (by omega) (by omega) (pK ?_) (fun E9 q9 h9 hx9 => hx9.elim)
        refine AW.topi (congrArg nI hF2.nh) ?_
        refine a_iconst cx (v := 1) dX2_isRight_64 (by decide) ?_
        refine a_isub cx dX2_isRight_65 ?_
        refine a_i2l cx dX2_isRight_66 rfl ?_
        refine c_SN cx (f1_inRange (x := s (63 + k)) (y := -1) (z := nI (nH s) - 1) cx.htr) (lw_meth q795) q77 q793 q794 dn_X1_inRange (RN.of rfl rfl rfl rfl) rfl rfl (Nat.le_of_ble_eq_true rfl) dX2_isRight_67 (by omega) (by omega) (pK ?_) (fun E9 q9 h9 hx9 => hx9.elim)
        refine AW.topi (show _ = (1 : Int32) by rw [bI_t ((inR_ix hm).mpr ((hW k d0).elim Or.inr (fun z => Or.inl ((isIx_iff (by omega)).mpr z))))]) ?_
        refine a_iand cx dX2_isRight_70 ?_
        refine AW.topi (show _ = (1 : Int32) by decide) ?_
        refine a_istore_n cx dX2_isRight_71 (Nat.le_of_ble_eq_true rfl) rfl ?_
        refine a_iload_n cx dX2_isRight_72 rfl ?_
        refine a_aload cx dX2_isRight_73 rfl ?_
        refine a_get cx fl_X2_107.g dX2_isRight_75 hsh (by exact rfl) ?_
        refine a_iconst cx (v := -1) dX2_isRight_78 (by decide) ?_
        refine a_icmp_ne cx (tgt := 86) dX2_isRight_79 (by decide) (fun c79 => ?_) (fun c79 => ?_)
        · have e1 : fcn s (k + 1) = fcn s k + 1 := by rw [fcn, if_neg c79]
          refine a_iconst cx (v := 1) dX2_isRight_86 (by decide) ?_
          refine a_iadd cx dX2_isRight_87 ?_
          refine AW.topi (nI_1 _) ?_
          refine a_istore_n cx dX2_isRight_88 (Nat.le_of_ble_eq_true rfl) rfl ?_
          refine a_goto cx (tgt := 27) dX2_isRight_89 (by decide) ?_
          have hgo := ih (k + 1) (nI k) h2 (by omega) (by omega) hs2 hit2
          rw [e1] at hgo
          refine AW.widen ?_ ?_ (AW.loc ?_ hgo)
          · omega
          · omega
          · exact ⟨rfl, rfl, rfl, rfl, trivial⟩
        · have e1 : fcn s (k + 1) = fcn s k := by rw [fcn, if_pos c79]; rfl
          refine a_iconst cx (v := 0) dX2_isRight_82 (by decide) ?_
          refine a_goto cx (tgt := 87) dX2_isRight_83 (by decide) ?_
          refine a_iadd cx dX2_isRight_87 ?_
          refine AW.topi (show _ = nI (fcn s k) from Int32.add_zero _) ?_
          refine a_istore_n cx dX2_isRight_88 (Nat.le_of_ble_eq_true rfl) rfl ?_
          refine a_goto cx (tgt := 27) dX2_isRight_89 (by decide) ?_
          have hgo := ih (k + 1) (nI k) h2 (by omega) (by omega) hs2 hit2
          rw [e1] at hgo
          refine AW.widen ?_ ?_ (AW.loc ?_ hgo)
          · omega
          · omega
          · exact ⟨rfl, rfl, rfl, rfl, trivial⟩
  exact AW.widen (by omega) (by omega) (AW.loc (show lle [some (.ref f), some (.int 0), some (.int 1), some (.ref it), none] _ from ⟨rfl, rfl, rfl, rfl, trivial⟩) (loop (nS s + 1) 0 (-1) _ (Nat.zero_le _) (by omega) (sub.new n23) (hset_s _ _ _)))
