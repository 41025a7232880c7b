/-! THE FIELD: made, copied, changed -/
set_option maxRecDepth 100000
abbrev rm_X2_init : Room := { frames := 4, cells := 3, slots := 9, locals := 80 }
set_option maxHeartbeats 4000000 in
theorem f2_init {lx : Launch} {g : GP} {h : AH} (htr : lx.stackTraces = false) {hb : AH} {f : Nat} (h1 : h f = some (eO 1 [.null, .null, .null, .int 0, .int 0, .int 0, .int 0])) (hB : gB g ≤ f) (hs : sub hb h) (n0 : hb f = none) : KT lx g yX2_init (ws_ yX2_init cX2_init 1 none) rm_X2_init 3 9 [.ref f] h (fun v h' => ∃ a b d, v = none ∧ FA g hb h' f sNew a (gs g 0) 0 0 b (gs g 0) 0 0 d [] []) (noX) := by
  refine KT.of (by decide +kernel) htr (Nat.le_of_ble_eq_true rfl) (L0 := [some (.ref f)]) rfl ?_
  intro M cx hl9 hq hin hnx
  refine a_aload_n cx dX2_init_0 rfl ?_
  refine a_objInit cx q131 q124 q125 dX2_init_1 (Nat.le_of_ble_eq_true rfl) (Nat.le_of_ble_eq_true rfl) ?_
  refine a_aload_n cx dX2_init_4 rfl ?_
  refine a_new cx nl_X2_9 dX2_init_5 (Nat.le_of_ble_eq_true rfl) (Nat.le_of_ble_eq_true rfl) (fun a n5 hB5 => ?_)
  have hfa : f ≠ a := fun z => by rw [z, n5] at h1; cases h1
  refine a_dup cx dX2_init_8 rfl ?_
  refine c_I cx (j2_init cx.htr (hset_s _ _ _)) (lw_meth q136) q81 q134 q135 rfl dn_J2_init (RN.of rfl rfl rfl rfl) rfl rfl (Nat.le_of_ble_eq_true rfl) dX2_init_9 (Nat.le_of_ble_eq_true rfl) (Nat.le_of_ble_eq_true rfl) (fun v9 h hp9 => ?_) (fun E9 q9 h9 hx9 => hx9.elim)
  obtain ⟨rfl, rfl, hl0⟩ := hp9
  rw [hset_hset]
  refine a_putF cx (hin.trans rfl) fl_X2_12 dX2_init_12 ((hset_n hfa).trans h1) hB rfl rfl (by exact (Nat.le_of_ble_eq_true rfl)) ?_
  refine a_aload_n cx dX2_init_15 rfl ?_
  refine a_new cx nl_X2_9 dX2_init_16 (Nat.le_of_ble_eq_true rfl) (Nat.le_of_ble_eq_true rfl) (fun b n16 hB16 => ?_)
  have hfb : f ≠ b := fun z => by rw [← z, hset_s] at n16; cases n16
  have hab : a ≠ b := fun z => by rw [← z, hset_n (Ne.symm hfa), hset_s] at n16; cases n16
  refine a_dup cx dX2_init_19 rfl ?_
  refine c_I cx (j2_init cx.htr (hset_s _ _ _)) (lw_meth q136) q81 q134 q135 rfl dn_J2_init (RN.of rfl rfl rfl rfl) rfl rfl (Nat.le_of_ble_eq_true rfl) dX2_init_20 (Nat.le_of_ble_eq_true rfl) (Nat.le_of_ble_eq_true rfl) (fun v9 h hp9 => ?_) (fun E9 q9 h9 hx9 => hx9.elim)
  obtain ⟨rfl, rfl, hl1⟩ := hp9
  rw [hset_hset]
  refine a_putF cx (hin.trans rfl) fl_X2_18 dX2_init_23 ((hset_n hfb).trans (hset_s _ _ _)) hB rfl rfl (by exact (Nat.le_of_ble_eq_true rfl)) ?_
  refine a_aload_n cx dX2_init_26 rfl ?_
  refine a_iconst cx (v := 3) dX2_init_27 (by decide) ?_
  refine a_newaI cx dX2_init_28 (show (3 : Int32) = nI 3 from rfl) (by decide) (Nat.le_of_ble_eq_true rfl) (Nat.le_of_ble_eq_true rfl) (fun d n28 hB28 => ?_)
  have hfd : f ≠ d := fun z => by rw [← z, hset_s] at n28; cases n28
  have hbd : b ≠ d := fun z => by rw [← z, hset_n (Ne.symm hfb), hset_s] at n28; cases n28
  have had : a ≠ d := fun z => by rw [← z, hset_n (Ne.symm hfa), hset_n hab, hset_n (Ne.symm hfa), hset_s] at n28; cases n28
  refine a_dup cx dX2_init_30 rfl ?_
  refine a_iconst cx (v := 0) dX2_init_31 (by decide) ?_
  refine a_iconst cx (v := -1) dX2_init_32 (by decide) ?_
  refine a_iast cx dX2_init_33 (hset_s _ _ _) (show (0 : Int32) = nI 0 from rfl) (by omega) (by omega) ?_
  rw [hset_hset]
  refine a_dup cx dX2_init_34 rfl ?_
  refine a_iconst cx (v := 1) dX2_init_35 (by decide) ?_
  refine a_iconst cx (v := -1) dX2_init_36 (by decide) ?_
  refine a_iast cx dX2_init_37 (hset_s _ _ _) (show (1 : Int32) = nI 1 from rfl) (by omega) (by omega) ?_
  rw [hset_hset]
  refine a_dup cx dX2_init_38 rfl ?_
  refine a_iconst cx (v := 2) dX2_init_39 (by decide) ?_
  refine a_iconst cx (v := -1) dX2_init_40 (by decide) ?_
  refine a_iast cx dX2_init_41 (hset_s _ _ _) (show (2 : Int32) = nI 2 from rfl) (by omega) (by omega) ?_
  rw [hset_hset]
  refine a_putF cx (hin.trans rfl) fl_X2_21 dX2_init_42 ((hset_n hfd).trans (hset_s _ _ _)) hB rfl rfl (by exact (Nat.le_of_ble_eq_true rfl)) ?_
  refine AW.hk fun hk9 => ?_
  have na := hs.none n5
  have nb := ((hs.set na).set n0).none n16
  have nd := ((((hs.set na).set n0).set nb).set n0).none n28
  exact a_vret cx hq dX2_init_45 ⟨a, b, d, rfl, FA.new ((((((hs.set na).set n0).set nb).set n0).set nd).set n0) (hset_s _ _ _) ((hset_n (Ne.symm hfa)).trans ((hset_n had).trans ((hset_n (Ne.symm hfa)).trans ((hset_n hab).trans ((hset_n (Ne.symm hfa)).trans (hset_s _ _ _)))))) ((hset_n (Ne.symm hfb)).trans ((hset_n hbd).trans ((hset_n (Ne.symm hfb)).trans (hset_s _ _ _)))) ((hset_n (Ne.symm hfd)).trans (hset_s _ _ _)) (fun i hi => by rcases (show i = 0 ∨ i = 1 ∨ i = 2 by omega) with e | e | e <;> subst e <;> rfl) hab hk9.2.2.1 n0 na nb nd⟩ (Nat.le_of_ble_eq_true rfl) (Nat.le_of_ble_eq_true rfl)
abbrev rm_X2_belong : Room := { frames := 0, cells := 0, slots := 0, locals := 0 }
set_option maxHeartbeats 4000000 in
theorem f2_belong {lx : Launch} {g : GP} {h : AH} (htr : lx.stackTraces = false) {hb : AH} {f a ea ca b eb cb d : Nat} {ma mb : Int32} {ls lh : List Nat} {s : SF} (hF : FA g hb h f s a ea ma ca b eb mb cb d ls lh) (hn : nS s ≤ 18) {k : Nat} {v : Int32} (hk : k < nS s) : KT lx g yX2_belong (ws_ yX2_belong cX2_belong 3 none) rm_X2_belong 0 0 [.ref f, .ref (ls.getD k 0), .int v] h (fun v9 h' => v9 = none ∧ FA g hb h' f (bel s k v) a ea ma ca b eb mb cb d ls lh) (noX) := by
  refine KT.of (by decide +kernel) htr (Nat.le_of_ble_eq_true rfl) (L0 := [some (.ref f), some (.ref (ls.getD k 0)), some (.int v)]) rfl ?_
  intro M cx hl9 hq hin hnx
  refine a_aload_n cx dX2_belong_0 rfl ?_
  refine a_dup cx dX2_belong_1 rfl ?_
  refine a_get cx fl_X2_71.g dX2_belong_2 hF.o (by exact rfl) ?_
  refine a_aload_n cx dX2_belong_5 rfl ?_
  refine a_get cx fl_X2_107.g dX2_belong_6 (hF.sh hk) (by exact rfl) ?_
  refine a_iload_n cx dX2_belong_9 rfl ?_
  refine a_icmp_ne cx (tgt := 17) dX2_belong_10 (by decide) (fun c10 => ?_) (fun c10 => ?_)
  · refine a_iconst cx (v := 1) dX2_belong_17 (by decide) ?_
    refine a_iadd cx dX2_belong_18 ?_
    refine AW.topi (show _ = s 5 + if s (63 + k) = v then 0 else 1 from by rw [if_neg c10]) ?_
    refine a_put cx fl_X2_71 dX2_belong_19 hF.o rfl rfl (by exact (Nat.le_of_ble_eq_true rfl)) ?_
    have hF2 : FA g hb (hset h f (eO 1 [.ref a, .ref b, .ref d, .int (s 2), .int (s 3), .int (s 4), .int (s 5 + if s (63 + k) = v then 0 else 1)])) f (upd s 5 (s 5 + if s (63 + k) = v then 0 else 1)) a ea ma ca b eb mb cb d ls lh := hF.ctr (s' := upd s 5 (s 5 + if s (63 + k) = v then 0 else 1)) (fun q _ _ _ h5 => upd_n h5)
    have hF3 := hF2.sheep (s' := bel s k v) hk hn (fun q _ _ _ h4 => upd_n h4)
    rw [bel_n (by omega) (by omega), bel_n (by omega) (by omega), bel_n (by omega) (by omega), bel_at] at hF3
    have hsh2 : (hset h f (eO 1 [.ref a, .ref b, .ref d, .int (s 2), .int (s 3), .int (s 4), .int (s 5 + if s (63 + k) = v then 0 else 1)])) (ls.getD k 0) = some (shE (s (9 + k)) (s (27 + k)) (s (45 + k)) (s (63 + k))) := (hset_n (fun z => by have := hF.sh hk; rw [z, hF.o] at this; cases this)).trans (hF.sh hk)
    refine a_aload_n cx dX2_belong_22 rfl ?_
    refine a_iload_n cx dX2_belong_23 rfl ?_
    refine a_put cx fl_X2_107 dX2_belong_24 hsh2 rfl rfl (by exact (Nat.le_of_ble_eq_true rfl)) ?_
    exact a_vret cx hq dX2_belong_27 ⟨rfl, hF3⟩ (Nat.le_of_ble_eq_true rfl) (Nat.le_of_ble_eq_true rfl)
  · refine a_iconst cx (v := 0) dX2_belong_13 (by decide) ?_
    refine a_goto cx (tgt := 18) dX2_belong_14 (by decide) ?_
    refine a_iadd cx dX2_belong_18 ?_
    refine AW.topi (show _ = s 5 + if s (63 + k) = v then 0 else 1 from by rw [if_pos c10]) ?_
    refine a_put cx fl_X2_71 dX2_belong_19 hF.o rfl rfl (by exact (Nat.le_of_ble_eq_true rfl)) ?_
    have hF2 : FA g hb (hset h f (eO 1 [.ref a, .ref b, .ref d, .int (s 2), .int (s 3), .int (s 4), .int (s 5 + if s (63 + k) = v then 0 else 1)])) f (upd s 5 (s 5 + if s (63 + k) = v then 0 else 1)) a ea ma ca b eb mb cb d ls lh := hF.ctr (s' := upd s 5 (s 5 + if s (63 + k) = v then 0 else 1)) (fun q _ _ _ h5 => upd_n h5)
    have hF3 := hF2.sheep (s' := bel s k v) hk hn (fun q _ _ _ h4 => upd_n h4)
    rw [bel_n (by omega) (by omega), bel_n (by omega) (by omega), bel_n (by omega) (by omega), bel_at] at hF3
    have hsh2 : (hset h f (eO 1 [.ref a, .ref b, .ref d, .int (s 2), .int (s 3), .int (s 4), .int (s 5 + if s (63 + k) = v then 0 else 1)])) (ls.getD k 0) = some (shE (s (9 + k)) (s (27 + k)) (s (45 + k)) (s (63 + k))) := (hset_n (fun z => by have := hF.sh hk; rw [z, hF.o] at this; cases this)).trans (hF.sh hk)
    refine a_aload_n cx dX2_belong_22 rfl ?_
    refine a_iload_n cx dX2_belong_23 rfl ?_
    refine a_put cx fl_X2_107 dX2_belong_24 hsh2 rfl rfl (by exact (Nat.le_of_ble_eq_true rfl)) ?_
    exact a_vret cx hq dX2_belong_27 ⟨rfl, hF3⟩ (Nat.le_of_ble_eq_true rfl) (Nat.le_of_ble_eq_true rfl)
