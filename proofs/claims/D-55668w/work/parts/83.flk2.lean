/-! FLOCKS: what they answer -/
set_option maxRecDepth 100000
theorem pK {g : GP} {M : MC} {k n pc : Nat} {L : List (Option Value)} {r : Value} {rest : List Value} {e : AH} (K : AW g M k n pc L (r :: rest) e) : ∀ (v : Option Value) (h' : AH), v = some r ∧ h' = e → AW g M k n pc L (v.toList ++ rest) h' := by
  intro v h' ⟨h1, h2⟩
  rw [h1, h2]
  exact K
theorem pV {g : GP} {M : MC} {k n pc : Nat} {L : List (Option Value)} {rest : List Value} {e : AH} (K : AW g M k n pc L rest e) : ∀ (v : Option Value) (h' : AH), v = none ∧ h' = e → AW g M k n pc L (v.toList ++ rest) h' := by
  intro v h' ⟨h1, h2⟩
  rw [h1, h2]
  exact K
theorem isR_rf (o : Option Nat) : isR (va_rf o) = true := by cases o <;> rfl
def rfo (ls : List Nat) (o : Option Nat) : Option Nat := o.map fun k => ls.getD k 0
theorem cnt_at {s : SF} {u : Int32} {p : Nat} (h : s (63 + p) = u) : ∀ n, p < n → 0 < cnt s u n := by
  intro n
  induction n with
  | zero => intro hp; omega
  | succ n ih =>
    intro hp
    rw [cnt]
    by_cases e : p = n
    · subst e; rw [if_pos h]; omega
    · have := ih (by omega); omega
def dst (s : SF) (j : Nat) : Nat → Int32
  | 0 => 0
  | k + 1 => dst s j k + if s (63 + k) = nI j then far s k j else 0
abbrev rm_X11_init : Room := { frames := 4, cells := 0, slots := 0, locals := 86 }
set_option maxHeartbeats 4000000 in
theorem f11_init {lx : Launch} {g : GP} {h : AH} (htr : lx.stackTraces = false) {hb h0 : AH} {f a ea ca b eb cb d : Nat} {ma mb : Int32} {ls lh : List Nat} {s : SF} (hF : FA g hb h0 f s a ea ma ca b eb mb cb d ls lh) (hn : nS s ≤ 18) {fl : Nat} {u : Int32} (hfl : h0 fl = some (eO 8 [.int u, .ref f])) {it : Nat} (h1 : h it = some (eO 9 [.int 0, .null])) (hB : gB g ≤ it) (hs : sub h0 h) (n0 : h0 it = none) : KT lx g yX11_init (ws_ yX11_init cX11_init 2 none) rm_X11_init 0 0 [.ref it, .ref fl] h (fun v h' => ∃ p, v = none ∧ NX s u 0 p ∧ h' = hset h it (fiE (nI p) fl)) (noX) := by
  refine KT.of (by decide +kernel) htr (Nat.le_of_ble_eq_true rfl) (L0 := [some (.ref it), some (.ref fl)]) rfl ?_
  intro M cx hl9 hq hin hnx
  refine a_aload_n cx dX11_init_0 rfl ?_
  refine a_aload_n cx dX11_init_1 rfl ?_
  refine a_putF cx (hin.trans rfl) fl_X11_1 dX11_init_2 h1 hB rfl rfl (by exact (Nat.le_of_ble_eq_true rfl)) ?_
  have hF2 := hF.up (hs.set n0 (e := fiE 0 fl))
  have hfl2 := hs.set n0 (e := fiE 0 fl) _ _ hfl
  refine a_aload_n cx dX11_init_5 rfl ?_
  refine a_objInit cx q690 q124 q125 dX11_init_6 (Nat.le_of_ble_eq_true rfl) (Nat.le_of_ble_eq_true rfl) ?_
  refine a_aload_n cx dX11_init_9 rfl ?_
  refine a_aload_n cx dX11_init_10 rfl ?_
  refine a_iconst cx (v := 0) dX11_init_11 (by decide) ?_
  refine c_V cx (f11_next_3 cx.htr hF2 hn hfl2 (hset_s _ _ _) (i := 0) (Nat.zero_le _)) (lw_V q440 q442 qs1 q111 q444) dn_X11_next_3 (RN.of rfl rfl rfl rfl) rfl (hset_s _ _ _) rfl rfl rfl (Nat.le_of_ble_eq_true rfl) dX11_init_12 (Nat.le_of_ble_eq_true rfl) (Nat.le_of_ble_eq_true rfl) (fun v9 h hp9 => ?_) (fun E9 q9 h9 hx9 => hx9.elim)
  obtain ⟨p, rfl, rfl, hx⟩ := hp9
  refine a_put cx fl_X11_17 dX11_init_15 (hset_s _ _ _) rfl rfl (by exact (Nat.le_of_ble_eq_true rfl)) ?_
  exact a_vret cx hq dX11_init_18 ⟨p, rfl, hx, by rw [hset_hset]; rfl⟩ (Nat.le_of_ble_eq_true rfl) (Nat.le_of_ble_eq_true rfl)
abbrev rm_X10_iterator : Room := { frames := 5, cells := 1, slots := 2, locals := 107 }
set_option maxHeartbeats 4000000 in
theorem f10_iterator {lx : Launch} {g : GP} {h : AH} (htr : lx.stackTraces = false) {hb : AH} {f a ea ca b eb cb d : Nat} {ma mb : Int32} {ls lh : List Nat} {s : SF} (hF : FA g hb h f s a ea ma ca b eb mb cb d ls lh) (hn : nS s ≤ 18) {fl : Nat} {u : Int32} (hfl : h fl = some (eO 8 [.int u, .ref f])) : KT lx g yX10_iterator (ws_ yX10_iterator cX10_iterator 1 (some (.object "java/util/Iterator"))) rm_X10_iterator 1 2 [.ref fl] h (fun v h' => ∃ it p, v = some (.ref it) ∧ h it = none ∧ gB g ≤ it ∧ NX s u 0 p ∧ h' = hset h it (fiE (nI p) fl)) (noX) := by
  refine KT.of (by decide +kernel) htr (Nat.le_of_ble_eq_true rfl) (L0 := [some (.ref fl)]) rfl ?_
  intro M cx hl9 hq hin hnx
  refine a_new cx nl_X10_17 dX10_iterator_0 (Nat.le_of_ble_eq_true rfl) (Nat.le_of_ble_eq_true rfl) (fun it n0 hB0 => ?_)
  refine a_dup cx dX10_iterator_3 rfl ?_
  refine a_aload_n cx dX10_iterator_4 rfl ?_
  refine c_I cx (f11_init cx.htr hF hn hfl (hset_s _ _ _) hB0 (sub.new n0) n0) (lw_meth q689) q111 q687 q688 rfl dn_X11_init (RN.of rfl rfl rfl rfl) rfl rfl (Nat.le_of_ble_eq_true rfl) dX10_iterator_5 (Nat.le_of_ble_eq_true rfl) (Nat.le_of_ble_eq_true rfl) (fun v9 h hp9 => ?_) (fun E9 q9 h9 hx9 => hx9.elim)
  obtain ⟨p, rfl, hx, rfl⟩ := hp9
  exact a_aret cx hq dX10_iterator_8 (Or.inl ⟨_, rfl⟩) ⟨it, p, rfl, n0, hB0, hx, by rw [hset_hset]⟩ (Nat.le_of_ble_eq_true rfl) (Nat.le_of_ble_eq_true rfl)
abbrev rm_X10_init : Room := { frames := 1, cells := 0, slots := 0, locals := 20 }
set_option maxHeartbeats 4000000 in
theorem f10_init {lx : Launch} {g : GP} {h : AH} (htr : lx.stackTraces = false) {fl f : Nat} {u : Int32} (h1 : h fl = some (eO 8 [.int 0, .null])) (hB : gB g ≤ fl) : KT lx g yX10_init (ws_ yX10_init cX10_init 3 none) rm_X10_init 0 0 [.ref fl, .ref f, .int u] h (fun v h' => v = none ∧ h' = hset h fl (flE u f)) (noX) := by
  refine KT.of (by decide +kernel) htr (Nat.le_of_ble_eq_true rfl) (L0 := [some (.ref fl), some (.ref f), some (.int u)]) rfl ?_
  intro M cx hl9 hq hin hnx
  refine a_aload_n cx dX10_init_0 rfl ?_
  refine a_aload_n cx dX10_init_1 rfl ?_
  refine a_putF cx (hin.trans rfl) fl_X10_1 dX10_init_2 h1 hB rfl rfl (by exact (Nat.le_of_ble_eq_true rfl)) ?_
  refine a_aload_n cx dX10_init_5 rfl ?_
  refine a_objInit cx q668 q124 q125 dX10_init_6 (Nat.le_of_ble_eq_true rfl) (Nat.le_of_ble_eq_true rfl) ?_
  refine a_aload_n cx dX10_init_9 rfl ?_
  refine a_iload_n cx dX10_init_10 rfl ?_
  refine a_putF cx (hin.trans rfl) fl_X10_13 dX10_init_11 (hset_s _ _ _) hB rfl rfl (by exact (Nat.le_of_ble_eq_true rfl)) ?_
  exact a_vret cx hq dX10_init_14 ⟨rfl, by rw [hset_hset]; rfl⟩ (Nat.le_of_ble_eq_true rfl) (Nat.le_of_ble_eq_true rfl)
abbrev rm_X2_flock : Room := { frames := 2, cells := 1, slots := 2, locals := 42 }
set_option maxHeartbeats 4000000 in
theorem f2_flock {lx : Launch} {g : GP} {h : AH} (htr : lx.stackTraces = false) {f : Nat} {u : Int32} : KT lx g yX2_flock (ws_ yX2_flock cX2_flock 2 (some (.object "FlockHuts$Field$Flock"))) rm_X2_flock 1 2 [.ref f, .int u] h (fun v h' => ∃ fl, v = some (.ref fl) ∧ h fl = none ∧ gB g ≤ fl ∧ h' = hset h fl (flE u f)) (noX) := by
  refine KT.of (by decide +kernel) htr (Nat.le_of_ble_eq_true rfl) (L0 := [some (.ref f), some (.int u)]) rfl ?_
  intro M cx hl9 hq hin hnx
  refine a_new cx nl_X2_74 dX2_flock_0 (Nat.le_of_ble_eq_true rfl) (Nat.le_of_ble_eq_true rfl) (fun fl n0 hB0 => ?_)
  refine a_dup cx dX2_flock_3 rfl ?_
  refine a_aload_n cx dX2_flock_4 rfl ?_
  refine a_iload_n cx dX2_flock_5 rfl ?_
  refine c_I cx (f10_init cx.htr (hset_s _ _ _) hB0) (lw_meth q667) q110 q665 q666 rfl dn_X10_init (RN.of rfl rfl rfl rfl) rfl rfl (Nat.le_of_ble_eq_true rfl) dX2_flock_6 (Nat.le_of_ble_eq_true rfl) (Nat.le_of_ble_eq_true rfl) (pV ?_) (fun E9 q9 h9 hx9 => hx9.elim)
  exact a_aret cx hq dX2_flock_9 (Or.inl ⟨_, rfl⟩) ⟨fl, rfl, n0, hB0, by rw [hset_hset]⟩ (Nat.le_of_ble_eq_true rfl) (Nat.le_of_ble_eq_true rfl)
abbrev rm_X10_isEmpty : Room := { frames := 6, cells := 1, slots := 2, locals := 127 }
set_option maxHeartbeats 4000000 in
theorem f10_isEmpty {lx : Launch} {g : GP} {h : AH} (htr : lx.stackTraces = false) {hb : AH} {f a ea ca b eb cb d : Nat} {ma mb : Int32} {ls lh : List Nat} {s : SF} (hF : FA g hb h f s a ea ma ca b eb mb cb d ls lh) (hn : nS s ≤ 18) {fl : Nat} {u : Int32} (hfl : h fl = some (eO 8 [.int u, .ref f])) : KT lx g yX10_isEmpty (ws_ yX10_isEmpty cX10_isEmpty 1 (some .boolean)) rm_X10_isEmpty 1 2 [.ref fl] h (isP (.int (bI (decide (cnt s u (nS s) = 0)))) h) (noX) := by
  refine KT.of (by decide +kernel) htr (Nat.le_of_ble_eq_true rfl) (L0 := [some (.ref fl)]) rfl ?_
  intro M cx hl9 hq hin hnx
  refine AW.hk fun hk9 => ?_
  refine a_aload_n cx dX10_isEmpty_0 rfl ?_
  refine c_V cx (f10_iterator cx.htr hF hn hfl) (lw_V q682 q683 q684 q110 q685) dn_X10_iterator (RN.of rfl rfl rfl rfl) rfl hfl rfl rfl rfl (Nat.le_of_ble_eq_true rfl) dX10_isEmpty_1 (Nat.le_of_ble_eq_true rfl) (Nat.le_of_ble_eq_true rfl) (fun v9 h hp9 => ?_) (fun E9 q9 h9 hx9 => hx9.elim)
  obtain ⟨it, p, rfl, n1, hB1, hx, rfl⟩ := hp9
  have hF1 := hF.up (sub.new n1 (e := fiE (nI p) fl))
  have hfl1 := (sub.new n1 (e := fiE (nI p) fl)) _ _ hfl
  refine c_F cx (f11_hasNext cx.htr hF1 hn hfl1 (hset_s _ _ _) hx.2.1) (lw_F q699 q326 q328 q111 q330) (by decide +kernel) ⟨by decide, by decide, by decide +kernel⟩ (RN.of rfl rfl rfl rfl) rfl (hset_s _ _ _) rfl rfl rfl (Nat.le_of_ble_eq_true rfl) dX10_isEmpty_4 (Nat.le_of_ble_eq_true rfl) (Nat.le_of_ble_eq_true rfl) (pK ?_) (fun E9 q9 h9 hx9 => hx9.elim)
  refine AW.hm (sub.new n1) (fun _ => hk9) ?_
  refine a_if_ne cx (tgt := 16) dX10_isEmpty_9 (by decide) (fun c9 => ?_) (fun c9 => ?_)
  · have d9 : p < nS s := of_decide_eq_true (bI_n0 c9)
    have r : bI (decide (cnt s u (nS s) = 0)) = 0 := bI_f (decide_eq_false (by have := cnt_at (hx.2.2.1 d9) (nS s) d9; omega))
    refine a_iconst cx (v := 0) dX10_isEmpty_16 (by decide) ?_
    exact a_zret cx hq dX10_isEmpty_17 rfl ⟨by rw [r], rfl⟩ (Nat.le_of_ble_eq_true rfl) (Nat.le_of_ble_eq_true rfl)
  · have d9 : p = nS s := by have q := of_decide_eq_false ((bI_0 _).mp c9); have := hx.2.1; omega
    have r : bI (decide (cnt s u (nS s) = 0)) = 1 := bI_t (decide_eq_true (by rw [← d9]; exact hx.skip (F := cnt s u) (fun k hk => by rw [cnt, if_neg hk, Nat.add_zero])))
    refine a_iconst cx (v := 1) dX10_isEmpty_12 (by decide) ?_
    refine a_goto cx (tgt := 17) dX10_isEmpty_13 (by decide) ?_
    exact a_zret cx hq dX10_isEmpty_17 rfl ⟨by rw [r], rfl⟩ (Nat.le_of_ble_eq_true rfl) (Nat.le_of_ble_eq_true rfl)
abbrev rm_X10_count : Room := { frames := 10, cells := 1, slots := 2, locals := 200 }
set_option maxHeartbeats 4000000 in
theorem f10_count {lx : Launch} {g : GP} {h : AH} (htr : lx.stackTraces = false) {hb : AH} {f a ea ca b eb cb d : Nat} {ma mb : Int32} {ls lh : List Nat} {s : SF} (hF : FA g hb h f s a ea ma ca b eb mb cb d ls lh) (hn : nS s ≤ 18) {fl : Nat} {u : Int32} (hfl : h fl = some (eO 8 [.int u, .ref f])) : KT lx g yX10_count (ws_ yX10_count cX10_count 4 (some .int)) rm_X10_count 1 2 [.ref fl] h (isP (.int (nI (cnt s u (nS s)))) h) (noX) := by
  refine KT.of (by decide +kernel) htr (Nat.le_of_ble_eq_true rfl) (L0 := [some (.ref fl), none, none, none]) rfl ?_
  intro M cx hl9 hq hin hnx
  have hR1 : rm_X10_count.cells = 1 := rfl
  have hR2 : rm_X10_count.slots = 2 := rfl
  refine AW.hk fun hk9 => ?_
  refine a_iconst cx (v := 0) dX10_count_0 (by decide) ?_
  refine a_istore_n cx dX10_count_1 (Nat.le_of_ble_eq_true rfl) rfl ?_
  refine a_aload_n cx dX10_count_2 rfl ?_
  refine c_V cx (f10_iterator cx.htr hF hn hfl) (lw_V q682 q683 q684 q110 q685) dn_X10_iterator (RN.of rfl rfl rfl rfl) rfl hfl rfl rfl rfl (Nat.le_of_ble_eq_true rfl) dX10_count_3 (by omega) (by omega) (fun v9 h hp9 => ?_) (fun E9 q9 h9 hx9 => hx9.elim)
  obtain ⟨it, p0, rfl, n3, hB3, hx0, rfl⟩ := hp9
  refine a_astore_n cx dX10_count_6 (Nat.le_of_ble_eq_true rfl) rfl ?_
  have loop : ∀ (j0 p : Nat) (h1 : AH), p ≤ nS s → nS s < p + j0 → (p < nS s → s (63 + p) = u) → sub h h1 → h1 it = some (fiE (nI p) fl) → AW g M 1 2 7 [some (.ref fl), some (.int (nI (cnt s u p))), some (.ref it), none] [] h1 := by
    intro j0
    induction j0 with
    | zero => intro p h1 b1 b2; omega
    | succ j0 ih =>
      intro p h1 b1 b2 hd hs hit
      have hF1 := hF.up hs
      have hfl1 := hs _ _ hfl
      refine a_aload_n cx dX10_count_7 rfl ?_
      refine c_F cx (f11_hasNext cx.htr hF1 hn hfl1 hit b1) (lw_F q699 q326 q328 q111 q330) (by decide +kernel) ⟨by decide, by decide, by decide +kernel⟩ (RN.of rfl rfl rfl rfl) rfl hit rfl rfl rfl (Nat.le_of_ble_eq_true rfl) dX10_count_8 (by omega) (by omega) (pK ?_) (fun E9 q9 h9 hx9 => hx9.elim)
      refine a_if_eq cx (tgt := 32) dX10_count_13 (by decide) (fun c13 => ?_) (fun c13 => ?_)
      · have d0 : p = nS s := by have q := of_decide_eq_false ((bI_0 _).mp c13); omega
        subst d0
        refine a_iload_n cx dX10_count_32 rfl ?_
        refine AW.hm hs (fun _ => hk9) ?_
        exact a_iret cx hq dX10_count_33 ⟨rfl, rfl⟩ (by omega) (by omega)
      · have d0 : p < nS s := of_decide_eq_true (bI_n0 c13)
        have hu := hd d0
        refine a_aload_n cx dX10_count_16 rfl ?_
        refine c_F cx (f11_next cx.htr hF1 hn hfl1 hit d0) (lw_F q705 q342 q344 q111 q346) (by decide +kernel) ⟨by decide, by decide, by decide +kernel⟩ (RN.of rfl rfl rfl rfl) rfl hit rfl rfl rfl (Nat.le_of_ble_eq_true rfl) dX10_count_17 (by omega) (by omega) (fun v9 h hp9 => ?_) (fun E9 q9 h9 hx9 => hx9.elim)
        obtain ⟨p', rfl, hx, rfl⟩ := hp9
        obtain ⟨h2, eh2⟩ : ∃ z, z = hset h1 it (fiE (nI p') fl) := ⟨_, rfl⟩
        rw [← eh2]
        have hs2 : sub h h2 := by rw [eh2]; exact hs.set n3
        have hF2 := hF.up hs2
        have hfl2 := hs2 _ _ hfl
        have hit2 : h2 it = some (fiE (nI p') fl) := by rw [eh2]; exact hset_s _ _ _
        have hsh := hF2.sh d0
        refine a_castS (r := (RX4, TX4, 4)) cx q706 dX10_count_22 hsh rfl ?_
        refine a_astore_n cx dX10_count_25 (Nat.le_of_ble_eq_true rfl) rfl ?_
        refine a_iincN cx dX10_count_26 rfl (Nat.le_of_ble_eq_true rfl) rfl ?_
        refine a_goto cx (tgt := 7) dX10_count_29 (by decide) ?_
        have e1_0 : cnt s u p' = cnt s u p + 1 := (hx.skip (F := cnt s u) (fun k hk => by rw [cnt, if_neg hk, Nat.add_zero])).trans (by rw [cnt, if_pos hu])
        have hgo := ih p' h2 hx.2.1 (by have := hx.1; omega) hx.2.2.1 hs2 hit2
        rw [e1_0] at hgo
        refine AW.widen ?_ ?_ (AW.loc ?_ hgo)
        · omega
        · omega
        · exact ⟨rfl, rfl, rfl, trivial⟩
  have e0_0 : cnt s u p0 = cnt s u 0 := hx0.skip (F := cnt s u) (fun k hk => by rw [cnt, if_neg hk, Nat.add_zero])
  have hgo := loop (nS s + 1) p0 _ hx0.2.1 (by omega) hx0.2.2.1 (sub.new n3) (hset_s _ _ _)
  rw [e0_0] at hgo
  exact AW.widen (by omega) (by omega) hgo
abbrev rm_X10_weight : Room := { frames := 10, cells := 1, slots := 2, locals := 200 }
set_option maxHeartbeats 4000000 in
theorem f10_weight {lx : Launch} {g : GP} {h : AH} (htr : lx.stackTraces = false) {hb : AH} {f a ea ca b eb cb d : Nat} {ma mb : Int32} {ls lh : List Nat} {s : SF} (hF : FA g hb h f s a ea ma ca b eb mb cb d ls lh) (hn : nS s ≤ 18) {fl : Nat} {u : Int32} (hfl : h fl = some (eO 8 [.int u, .ref f])) : KT lx g yX10_weight (ws_ yX10_weight cX10_weight 4 (some .int)) rm_X10_weight 1 2 [.ref fl] h (isP (.int (wt s u (nS s))) h) (noX) := by
  refine KT.of (by decide +kernel) htr (Nat.le_of_ble_eq_true rfl) (L0 := [some (.ref fl), none, none, none]) rfl ?_
  intro M cx hl9 hq hin hnx
  have hR1 : rm_X10_weight.cells = 1 := rfl
  have hR2 : rm_X10_weight.slots = 2 := rfl
  refine AW.hk fun hk9 => ?_
  refine a_iconst cx (v := 0) dX10_weight_0 (by decide) ?_
  refine a_istore_n cx dX10_weight_1 (Nat.le_of_ble_eq_true rfl) rfl ?_
  refine a_aload_n cx dX10_weight_2 rfl ?_
  refine c_V cx (f10_iterator cx.htr hF hn hfl) (lw_V q682 q683 q684 q110 q685) dn_X10_iterator (RN.of rfl rfl rfl rfl) rfl hfl rfl rfl rfl (Nat.le_of_ble_eq_true rfl) dX10_weight_3 (by omega) (by omega) (fun v9 h hp9 => ?_) (fun E9 q9 h9 hx9 => hx9.elim)
  obtain ⟨it, p0, rfl, n3, hB3, hx0, rfl⟩ := hp9
  refine a_astore_n cx dX10_weight_6 (Nat.le_of_ble_eq_true rfl) rfl ?_
  have loop : ∀ (j0 p : Nat) (h1 : AH), p ≤ nS s → nS s < p + j0 → (p < nS s → s (63 + p) = u) → sub h h1 → h1 it = some (fiE (nI p) fl) → AW g M 1 2 7 [some (.ref fl), some (.int (wt s u p)), some (.ref it), none] [] h1 := by
    intro j0
    induction j0 with
    | zero => intro p h1 b1 b2; omega
    | succ j0 ih =>
      intro p h1 b1 b2 hd hs hit
      have hF1 := hF.up hs
      have hfl1 := hs _ _ hfl
      refine a_aload_n cx dX10_weight_7 rfl ?_
      refine c_F cx (f11_hasNext cx.htr hF1 hn hfl1 hit b1) (lw_F q699 q326 q328 q111 q330) (by decide +kernel) ⟨by decide, by decide, by decide +kernel⟩ (RN.of rfl rfl rfl rfl) rfl hit rfl rfl rfl (Nat.le_of_ble_eq_true rfl) dX10_weight_8 (by omega) (by omega) (pK ?_) (fun E9 q9 h9 hx9 => hx9.elim)
      refine a_if_eq cx (tgt := 36) dX10_weight_13 (by decide) (fun c13 => ?_) (fun c13 => ?_)
      · have d0 : p = nS s := by have q := of_decide_eq_false ((bI_0 _).mp c13); omega
        subst d0
        refine a_iload_n cx dX10_weight_36 rfl ?_
        refine AW.hm hs (fun _ => hk9) ?_
        exact a_iret cx hq dX10_weight_37 ⟨rfl, rfl⟩ (by omega) (by omega)
      · have d0 : p < nS s := of_decide_eq_true (bI_n0 c13)
        have hu := hd d0
        refine a_aload_n cx dX10_weight_16 rfl ?_
        refine c_F cx (f11_next cx.htr hF1 hn hfl1 hit d0) (lw_F q705 q342 q344 q111 q346) (by decide +kernel) ⟨by decide, by decide, by decide +kernel⟩ (RN.of rfl rfl rfl rfl) rfl hit rfl rfl rfl (Nat.le_of_ble_eq_true rfl) dX10_weight_17 (by omega) (by omega) (fun v9 h hp9 => ?_) (fun E9 q9 h9 hx9 => hx9.elim)
        obtain ⟨p', rfl, hx, rfl⟩ := hp9
        obtain ⟨h2, eh2⟩ : ∃ z, z = hset h1 it (fiE (nI p') fl) := ⟨_, rfl⟩
        rw [← eh2]
        have hs2 : sub h h2 := by rw [eh2]; exact hs.set n3
        have hF2 := hF.up hs2
        have hfl2 := hs2 _ _ hfl
        have hit2 : h2 it = some (fiE (nI p') fl) := by rw [eh2]; exact hset_s _ _ _
        have hsh := hF2.sh d0
        refine a_castS (r := (RX4, TX4, 4)) cx q706 dX10_weight_22 hsh rfl ?_
        refine a_astore_n cx dX10_weight_25 (Nat.le_of_ble_eq_true rfl) rfl ?_
        refine a_iload_n cx dX10_weight_26 rfl ?_
        refine a_aload_n cx dX10_weight_27 rfl ?_
        refine a_get cx fl_X10_38.g dX10_weight_28 hsh (by exact rfl) ?_
        refine a_iadd cx dX10_weight_31 ?_
        refine a_istore_n cx dX10_weight_32 (Nat.le_of_ble_eq_true rfl) rfl ?_
        refine a_goto cx (tgt := 7) dX10_weight_33 (by decide) ?_
        have e1_0 : wt s u p' = wt s u p + s (45 + p) := (hx.skip (F := wt s u) (fun k hk => by rw [wt, if_neg hk, Int32.add_zero])).trans (by rw [wt, if_pos hu])
        have hgo := ih p' h2 hx.2.1 (by have := hx.1; omega) hx.2.2.1 hs2 hit2
        rw [e1_0] at hgo
        refine AW.widen ?_ ?_ (AW.loc ?_ hgo)
        · omega
        · omega
        · exact ⟨rfl, rfl, rfl, trivial⟩
  have e0_0 : wt s u p0 = wt s u 0 := hx0.skip (F := wt s u) (fun k hk => by rw [wt, if_neg hk, Int32.add_zero])
  have hgo := loop (nS s + 1) p0 _ hx0.2.1 (by omega) hx0.2.2.1 (sub.new n3) (hset_s _ _ _)
  rw [e0_0] at hgo
  exact AW.widen (by omega) (by omega) hgo
abbrev rm_X10_spread : Room := { frames := 10, cells := 1, slots := 2, locals := 200 }
set_option maxHeartbeats 4000000 in
theorem f10_spread {lx : Launch} {g : GP} {h : AH} (htr : lx.stackTraces = false) {hb : AH} {f a ea ca b eb cb d : Nat} {ma mb : Int32} {ls lh : List Nat} {s : SF} (hF : FA g hb h f s a ea ma ca b eb mb cb d ls lh) (hn : nS s ≤ 18) {fl j : Nat} (hfl : h fl = some (eO 8 [.int (nI j), .ref f])) (hj : j < nH s) : KT lx g yX10_spread (ws_ yX10_spread cX10_spread 4 (some .int)) rm_X10_spread 1 2 [.ref fl] h (isP (.int (spr s j (nS s))) h) (noX) := by
  refine KT.of (by decide +kernel) htr (Nat.le_of_ble_eq_true rfl) (L0 := [some (.ref fl), none, none, none]) rfl ?_
  intro M cx hl9 hq hin hnx
  have hR1 : rm_X10_spread.cells = 1 := rfl
  have hR2 : rm_X10_spread.slots = 2 := rfl
  refine AW.hk fun hk9 => ?_
  refine a_iconst cx (v := 0) dX10_spread_0 (by decide) ?_
  refine a_istore_n cx dX10_spread_1 (Nat.le_of_ble_eq_true rfl) rfl ?_
  refine a_aload_n cx dX10_spread_2 rfl ?_
  refine c_V cx (f10_iterator cx.htr hF hn hfl) (lw_V q682 q683 q684 q110 q685) dn_X10_iterator (RN.of rfl rfl rfl rfl) rfl hfl rfl rfl rfl (Nat.le_of_ble_eq_true rfl) dX10_spread_3 (by omega) (by omega) (fun v9 h hp9 => ?_) (fun E9 q9 h9 hx9 => hx9.elim)
  obtain ⟨it, p0, rfl, n3, hB3, hx0, rfl⟩ := hp9
  refine a_astore_n cx dX10_spread_6 (Nat.le_of_ble_eq_true rfl) rfl ?_
  have loop : ∀ (j0 p : Nat) (h1 : AH), p ≤ nS s → nS s < p + j0 → (p < nS s → s (63 + p) = nI j) → sub h h1 → h1 it = some (fiE (nI p) fl) → AW g M 1 2 7 [some (.ref fl), some (.int (spr s j p)), some (.ref it), none] [] h1 := by
    intro j0
    induction j0 with
    | zero => intro p h1 b1 b2; omega
    | succ j0 ih =>
      intro p h1 b1 b2 hd hs hit
      have hF1 := hF.up hs
      have hfl1 := hs _ _ hfl
      refine a_aload_n cx dX10_spread_7 rfl ?_
      refine c_F cx (f11_hasNext cx.htr hF1 hn hfl1 hit b1) (lw_F q699 q326 q328 q111 q330) (by decide +kernel) ⟨by decide, by decide, by decide +kernel⟩ (RN.of rfl rfl rfl rfl) rfl hit rfl rfl rfl (Nat.le_of_ble_eq_true rfl) dX10_spread_8 (by omega) (by omega) (pK ?_) (fun E9 q9 h9 hx9 => hx9.elim)
      refine a_if_eq cx (tgt := 58) dX10_spread_13 (by decide) (fun c13 => ?_) (fun c13 => ?_)
      · have d0 : p = nS s := by have q := of_decide_eq_false ((bI_0 _).mp c13); omega
        subst d0
        refine a_iload_n cx dX10_spread_58 rfl ?_
        refine AW.hm hs (fun _ => hk9) ?_
        exact a_iret cx hq dX10_spread_59 ⟨rfl, rfl⟩ (by omega) (by omega)
      · have d0 : p < nS s := of_decide_eq_true (bI_n0 c13)
        have hu := hd d0
        refine a_aload_n cx dX10_spread_16 rfl ?_
        refine c_F cx (f11_next cx.htr hF1 hn hfl1 hit d0) (lw_F q705 q342 q344 q111 q346) (by decide +kernel) ⟨by decide, by decide, by decide +kernel⟩ (RN.of rfl rfl rfl rfl) rfl hit rfl rfl rfl (Nat.le_of_ble_eq_true rfl) dX10_spread_17 (by omega) (by omega) (fun v9 h hp9 => ?_) (fun E9 q9 h9 hx9 => hx9.elim)
        obtain ⟨p', rfl, hx, rfl⟩ := hp9
        obtain ⟨h2, eh2⟩ : ∃ z, z = hset h1 it (fiE (nI p') fl) := ⟨_, rfl⟩
        rw [← eh2]
        have hs2 : sub h h2 := by rw [eh2]; exact hs.set n3
        have hF2 := hF.up hs2
        have hfl2 := hs2 _ _ hfl
        have hit2 : h2 it = some (fiE (nI p') fl) := by rw [eh2]; exact hset_s _ _ _
        have hsh := hF2.sh d0
        refine a_castS (r := (RX4, TX4, 4)) cx q706 dX10_spread_22 hsh rfl ?_
        refine a_astore_n cx dX10_spread_25 (Nat.le_of_ble_eq_true rfl) rfl ?_
        refine a_iload_n cx dX10_spread_26 rfl ?_
        refine a_aload_n cx dX10_spread_27 rfl ?_
        refine a_get cx fl_X10_38.g dX10_spread_28 hsh (by exact rfl) ?_
        refine a_aload_n cx dX10_spread_31 rfl ?_
        refine a_aload_n cx dX10_spread_32 rfl ?_
        refine a_get cx fl_X10_1.g dX10_spread_33 hfl2 (by exact rfl) ?_
        refine a_get cx fl_X10_41 dX10_spread_36 hF2.o (by exact rfl) ?_
        refine a_aload_n cx dX10_spread_39 rfl ?_
        refine a_get cx fl_X10_13.g dX10_spread_40 hfl2 (by exact rfl) ?_
        refine c_V cx (j2_get (i := j) cx.htr hF2.lb (by rw [hF2.nh]; exact hj)) (lw_V q768 q426 q427 q81 q428) dn_J2_get (RN.of rfl rfl rfl rfl) rfl hF2.lb.1 rfl rfl rfl (Nat.le_of_ble_eq_true rfl) dX10_spread_43 (by omega) (by omega) (pK ?_) (fun E9 q9 h9 hx9 => hx9.elim)
        refine a_castI (RX5, TX5, 2) cx q769 q577 dX10_spread_46 (hF2.hu hj) rfl ?_
        refine c_VD (na := 1) cx (f8_distancesh (w2 := 0) (u2 := 0) cx.htr hsh (hF2.hu hj)) (lw_meth q648) (List.mem_of_getElem? (i := 4) rfl) (List.mem_of_getElem? (i := 1) rfl) q644 q646 q107 (by decide +kernel) (RN.of rfl rfl rfl rfl) rfl (by decide +kernel) hsh rfl rfl rfl (Nat.le_of_ble_eq_true rfl) dX10_spread_49 (by omega) (by omega) (pK ?_)
        refine AW.topi (show _ = far s p j from rfl) ?_
        refine a_imul cx dX10_spread_52 ?_
        refine a_iadd cx dX10_spread_53 ?_
        refine a_istore_n cx dX10_spread_54 (Nat.le_of_ble_eq_true rfl) rfl ?_
        refine a_goto cx (tgt := 7) dX10_spread_55 (by decide) ?_
        have e1_0 : spr s j p' = spr s j p + s (45 + p) * far s p j := (hx.skip (F := spr s j) (fun k hk => by rw [spr, if_neg hk, Int32.add_zero])).trans (by rw [spr, if_pos hu])
        have hgo := ih p' h2 hx.2.1 (by have := hx.1; omega) hx.2.2.1 hs2 hit2
        rw [e1_0] at hgo
        refine AW.widen ?_ ?_ (AW.loc ?_ hgo)
        · omega
        · omega
        · exact ⟨rfl, rfl, rfl, trivial⟩
  have e0_0 : spr s j p0 = spr s j 0 := hx0.skip (F := spr s j) (fun k hk => by rw [spr, if_neg hk, Int32.add_zero])
  have hgo := loop (nS s + 1) p0 _ hx0.2.1 (by omega) hx0.2.2.1 (sub.new n3) (hset_s _ _ _)
  rw [e0_0] at hgo
  exact AW.widen (by omega) (by omega) hgo
abbrev rm_X10_distances : Room := { frames := 10, cells := 1, slots := 2, locals := 200 }
set_option maxHeartbeats 4000000 in
theorem f10_distances {lx : Launch} {g : GP} {h : AH} (htr : lx.stackTraces = false) {hb : AH} {f a ea ca b eb cb d : Nat} {ma mb : Int32} {ls lh : List Nat} {s : SF} (hF : FA g hb h f s a ea ma ca b eb mb cb d ls lh) (hn : nS s ≤ 18) {fl j : Nat} (hfl : h fl = some (eO 8 [.int (nI j), .ref f])) (hj : j < nH s) : KT lx g yX10_distances (ws_ yX10_distances cX10_distances 4 (some .int)) rm_X10_distances 1 2 [.ref fl] h (isP (.int (dst s j (nS s))) h) (noX) := by
  refine KT.of (by decide +kernel) htr (Nat.le_of_ble_eq_true rfl) (L0 := [some (.ref fl), none, none, none]) rfl ?_
  intro M cx hl9 hq hin hnx
  have hR1 : rm_X10_distances.cells = 1 := rfl
  have hR2 : rm_X10_distances.slots = 2 := rfl
  refine AW.hk fun hk9 => ?_
  refine a_iconst cx (v := 0) dX10_distances_0 (by decide) ?_
  refine a_istore_n cx dX10_distances_1 (Nat.le_of_ble_eq_true rfl) rfl ?_
  refine a_aload_n cx dX10_distances_2 rfl ?_
  refine c_V cx (f10_iterator cx.htr hF hn hfl) (lw_V q682 q683 q684 q110 q685) dn_X10_iterator (RN.of rfl rfl rfl rfl) rfl hfl rfl rfl rfl (Nat.le_of_ble_eq_true rfl) dX10_distances_3 (by omega) (by omega) (fun v9 h hp9 => ?_) (fun E9 q9 h9 hx9 => hx9.elim)
  obtain ⟨it, p0, rfl, n3, hB3, hx0, rfl⟩ := hp9
  refine a_astore_n cx dX10_distances_6 (Nat.le_of_ble_eq_true rfl) rfl ?_
  have loop : ∀ (j0 p : Nat) (h1 : AH), p ≤ nS s → nS s < p + j0 → (p < nS s → s (63 + p) = nI j) → sub h h1 → h1 it = some (fiE (nI p) fl) → AW g M 1 2 7 [some (.ref fl), some (.int (dst s j p)), some (.ref it), none] [] h1 := by
    intro j0
    induction j0 with
    | zero => intro p h1 b1 b2; omega
    | succ j0 ih =>
      intro p h1 b1 b2 hd hs hit
      have hF1 := hF.up hs
      have hfl1 := hs _ _ hfl
      refine a_aload_n cx dX10_distances_7 rfl ?_
      refine c_F cx (f11_hasNext cx.htr hF1 hn hfl1 hit b1) (lw_F q699 q326 q328 q111 q330) (by decide +kernel) ⟨by decide, by decide, by decide +kernel⟩ (RN.of rfl rfl rfl rfl) rfl hit rfl rfl rfl (Nat.le_of_ble_eq_true rfl) dX10_distances_8 (by omega) (by omega) (pK ?_) (fun E9 q9 h9 hx9 => hx9.elim)
      refine a_if_eq cx (tgt := 53) dX10_distances_13 (by decide) (fun c13 => ?_) (fun c13 => ?_)
      · have d0 : p = nS s := by have q := of_decide_eq_false ((bI_0 _).mp c13); omega
        subst d0
        refine a_iload_n cx dX10_distances_53 rfl ?_
        refine AW.hm hs (fun _ => hk9) ?_
        exact a_iret cx hq dX10_distances_54 ⟨rfl, rfl⟩ (by omega) (by omega)
      · have d0 : p < nS s := of_decide_eq_true (bI_n0 c13)
        have hu := hd d0
        refine a_aload_n cx dX10_distances_16 rfl ?_
        refine c_F cx (f11_next cx.htr hF1 hn hfl1 hit d0) (lw_F q705 q342 q344 q111 q346) (by decide +kernel) ⟨by decide, by decide, by decide +kernel⟩ (RN.of rfl rfl rfl rfl) rfl hit rfl rfl rfl (Nat.le_of_ble_eq_true rfl) dX10_distances_17 (by omega) (by omega) (fun v9 h hp9 => ?_) (fun E9 q9 h9 hx9 => hx9.elim)
        obtain ⟨p', rfl, hx, rfl⟩ := hp9
        obtain ⟨h2, eh2⟩ : ∃ z, z = hset h1 it (fiE (nI p') fl) := ⟨_, rfl⟩
        rw [← eh2]
        have hs2 : sub h h2 := by rw [eh2]; exact hs.set n3
        have hF2 := hF.up hs2
        have hfl2 := hs2 _ _ hfl
        have hit2 : h2 it = some (fiE (nI p') fl) := by rw [eh2]; exact hset_s _ _ _
        have hsh := hF2.sh d0
        refine a_castS (r := (RX4, TX4, 4)) cx q706 dX10_distances_22 hsh rfl ?_
        refine a_astore_n cx dX10_distances_25 (Nat.le_of_ble_eq_true rfl) rfl ?_
        refine a_iload_n cx dX10_distances_26 rfl ?_
        refine a_aload_n cx dX10_distances_27 rfl ?_
        refine a_aload_n cx dX10_distances_28 rfl ?_
        refine a_get cx fl_X10_1.g dX10_distances_29 hfl2 (by exact rfl) ?_
        refine a_get cx fl_X10_41 dX10_distances_32 hF2.o (by exact rfl) ?_
        refine a_aload_n cx dX10_distances_35 rfl ?_
        refine a_get cx fl_X10_13.g dX10_distances_36 hfl2 (by exact rfl) ?_
        refine c_V cx (j2_get (i := j) cx.htr hF2.lb (by rw [hF2.nh]; exact hj)) (lw_V q768 q426 q427 q81 q428) dn_J2_get (RN.of rfl rfl rfl rfl) rfl hF2.lb.1 rfl rfl rfl (Nat.le_of_ble_eq_true rfl) dX10_distances_39 (by omega) (by omega) (pK ?_) (fun E9 q9 h9 hx9 => hx9.elim)
        refine a_castI (RX5, TX5, 2) cx q769 q577 dX10_distances_42 (hF2.hu hj) rfl ?_
        refine c_VD (na := 1) cx (f8_distancesh (w2 := 0) (u2 := 0) cx.htr hsh (hF2.hu hj)) (lw_meth q648) (List.mem_of_getElem? (i := 4) rfl) (List.mem_of_getElem? (i := 1) rfl) q644 q646 q107 (by decide +kernel) (RN.of rfl rfl rfl rfl) rfl (by decide +kernel) hsh rfl rfl rfl (Nat.le_of_ble_eq_true rfl) dX10_distances_45 (by omega) (by omega) (pK ?_)
        refine AW.topi (show _ = far s p j from rfl) ?_
        refine a_iadd cx dX10_distances_48 ?_
        refine a_istore_n cx dX10_distances_49 (Nat.le_of_ble_eq_true rfl) rfl ?_
        refine a_goto cx (tgt := 7) dX10_distances_50 (by decide) ?_
        have e1_0 : dst s j p' = dst s j p + far s p j := (hx.skip (F := dst s j) (fun k hk => by rw [dst, if_neg hk, Int32.add_zero])).trans (by rw [dst, if_pos hu])
        have hgo := ih p' h2 hx.2.1 (by have := hx.1; omega) hx.2.2.1 hs2 hit2
        rw [e1_0] at hgo
        refine AW.widen ?_ ?_ (AW.loc ?_ hgo)
        · omega
        · omega
        · exact ⟨rfl, rfl, rfl, trivial⟩
  have e0_0 : dst s j p0 = dst s j 0 := hx0.skip (F := dst s j) (fun k hk => by rw [dst, if_neg hk, Int32.add_zero])
  have hgo := loop (nS s + 1) p0 _ hx0.2.1 (by omega) hx0.2.2.1 (sub.new n3) (hset_s _ _ _)
  rw [e0_0] at hgo
  exact AW.widen (by omega) (by omega) hgo
abbrev rm_X10_middle : Room := { frames := 12, cells := 4, slots := 8, locals := 300 }
set_option maxHeartbeats 4000000 in
theorem f10_middle {lx : Launch} {g : GP} {h : AH} (htr : lx.stackTraces = false) {hb : AH} {f a ea ca b eb cb d : Nat} {ma mb : Int32} {ls lh : List Nat} {s : SF} (hF : FA g hb h f s a ea ma ca b eb mb cb d ls lh) (hn : nS s ≤ 18) {fl : Nat} {u : Int32} (hfl : h fl = some (eO 8 [.int u, .ref f])) (hw : ¬ wt s u (nS s) = 0) : KT lx g yX10_middle (ws_ yX10_middle cX10_middle 5 (some (.object "FlockHuts$Placed"))) rm_X10_middle 4 8 [.ref fl] h (fun v h' => ∃ q, v = some (.ref q) ∧ h q = none ∧ gB g ≤ q ∧ h' = hset h q (plE (mid s u 9) (mid s u 27))) (noX) := by
  refine KT.of (by decide +kernel) htr (Nat.le_of_ble_eq_true rfl) (L0 := [some (.ref fl), none, none, none, none]) rfl ?_
  intro M cx hl9 hq hin hnx
  have hR1 : rm_X10_middle.cells = 4 := rfl
  have hR2 : rm_X10_middle.slots = 8 := rfl
  refine AW.hk fun hk9 => ?_
  refine a_iconst cx (v := 0) dX10_middle_0 (by decide) ?_
  refine a_istore_n cx dX10_middle_1 (Nat.le_of_ble_eq_true rfl) rfl ?_
  refine a_iconst cx (v := 0) dX10_middle_2 (by decide) ?_
  refine a_istore_n cx dX10_middle_3 (Nat.le_of_ble_eq_true rfl) rfl ?_
  refine a_aload_n cx dX10_middle_4 rfl ?_
  refine c_V cx (f10_iterator cx.htr hF hn hfl) (lw_V q682 q683 q684 q110 q685) dn_X10_iterator (RN.of rfl rfl rfl rfl) rfl hfl rfl rfl rfl (Nat.le_of_ble_eq_true rfl) dX10_middle_5 (by omega) (by omega) (fun v9 h hp9 => ?_) (fun E9 q9 h9 hx9 => hx9.elim)
  obtain ⟨it, p0, rfl, n5, hB5, hx0, rfl⟩ := hp9
  refine a_astore_n cx dX10_middle_8 (Nat.le_of_ble_eq_true rfl) rfl ?_
  have loop : ∀ (j0 p : Nat) (h1 : AH), p ≤ nS s → nS s < p + j0 → (p < nS s → s (63 + p) = u) → sub h h1 → h1 it = some (fiE (nI p) fl) → AW g M 1 2 9 [some (.ref fl), some (.int (msum s u 9 p)), some (.int (msum s u 27 p)), some (.ref it), none] [] h1 := by
    intro j0
    induction j0 with
    | zero => intro p h1 b1 b2; omega
    | succ j0 ih =>
      intro p h1 b1 b2 hd hs hit
      have hF1 := hF.up hs
      have hfl1 := hs _ _ hfl
      refine a_aload_n cx dX10_middle_9 rfl ?_
      refine c_F cx (f11_hasNext cx.htr hF1 hn hfl1 hit b1) (lw_F q699 q326 q328 q111 q330) (by decide +kernel) ⟨by decide, by decide, by decide +kernel⟩ (RN.of rfl rfl rfl rfl) rfl hit rfl rfl rfl (Nat.le_of_ble_eq_true rfl) dX10_middle_10 (by omega) (by omega) (pK ?_) (fun E9 q9 h9 hx9 => hx9.elim)
      refine a_if_eq cx (tgt := 60) dX10_middle_15 (by decide) (fun c15 => ?_) (fun c15 => ?_)
      · have d0 : p = nS s := by have q := of_decide_eq_false ((bI_0 _).mp c15); omega
        subst d0
        refine AW.hm hs (fun _ => hk9) ?_
        refine a_iload_n cx dX10_middle_60 rfl ?_
        refine a_aload_n cx dX10_middle_61 rfl ?_
        refine c_V cx (f10_weight cx.htr hF hn hfl) (lw_V q707 q708 q709 q110 q710) dn_X10_weight (RN.of rfl rfl rfl rfl) rfl hfl rfl rfl rfl (Nat.le_of_ble_eq_true rfl) dX10_middle_62 (by omega) (by omega) (pK ?_) (fun E9 q9 h9 hx9 => hx9.elim)
        refine a_idiv cx dX10_middle_65 hw ?_
        refine a_iload_n cx dX10_middle_66 rfl ?_
        refine a_aload_n cx dX10_middle_67 rfl ?_
        refine c_V cx (f10_weight cx.htr hF hn hfl) (lw_V q707 q708 q709 q110 q710) dn_X10_weight (RN.of rfl rfl rfl rfl) rfl hfl rfl rfl rfl (Nat.le_of_ble_eq_true rfl) dX10_middle_68 (by omega) (by omega) (pK ?_) (fun E9 q9 h9 hx9 => hx9.elim)
        refine a_idiv cx dX10_middle_71 hw ?_
        refine c_S cx (f8_at cx.htr) (lw_S q711 q712 q107 q713) dn_X8_at (RN.of rfl rfl rfl rfl) rfl rfl (Nat.le_of_ble_eq_true rfl) dX10_middle_72 (by omega) (by omega) (fun v9 h hp9 => ?_) (fun E9 q9 h9 hx9 => hx9.elim)
        obtain ⟨q, n72, hB72, rfl, rfl⟩ := hp9
        exact a_aret cx hq dX10_middle_75 (Or.inl ⟨_, rfl⟩) ⟨q, rfl, n72, hB72, rfl⟩ (by omega) (by omega)
      · have d0 : p < nS s := of_decide_eq_true (bI_n0 c15)
        have hu := hd d0
        refine a_aload_n cx dX10_middle_18 rfl ?_
        refine c_F cx (f11_next cx.htr hF1 hn hfl1 hit d0) (lw_F q705 q342 q344 q111 q346) (by decide +kernel) ⟨by decide, by decide, by decide +kernel⟩ (RN.of rfl rfl rfl rfl) rfl hit rfl rfl rfl (Nat.le_of_ble_eq_true rfl) dX10_middle_19 (by omega) (by omega) (fun v9 h hp9 => ?_) (fun E9 q9 h9 hx9 => hx9.elim)
        obtain ⟨p', rfl, hx, rfl⟩ := hp9
        obtain ⟨h2, eh2⟩ : ∃ z, z = hset h1 it (fiE (nI p') fl) := ⟨_, rfl⟩
        rw [← eh2]
        have hs2 : sub h h2 := by rw [eh2]; exact hs.set n5
        have hF2 := hF.up hs2
        have hfl2 := hs2 _ _ hfl
        have hit2 : h2 it = some (fiE (nI p') fl) := by rw [eh2]; exact hset_s _ _ _
        have hsh := hF2.sh d0
        refine a_castS (r := (RX4, TX4, 4)) cx q706 dX10_middle_24 hsh rfl ?_
        refine a_astore cx dX10_middle_27 (Nat.le_of_ble_eq_true rfl) rfl ?_
        refine a_iload_n cx dX10_middle_29 rfl ?_
        refine a_aload cx dX10_middle_30 rfl ?_
        refine a_get cx fl_X10_38.g dX10_middle_32 hsh (by exact rfl) ?_
        refine a_aload cx dX10_middle_35 rfl ?_
        refine a_get cx fl_X10_59 dX10_middle_37 hsh (by exact rfl) ?_
        refine a_imul cx dX10_middle_40 ?_
        refine a_iadd cx dX10_middle_41 ?_
        refine a_istore_n cx dX10_middle_42 (Nat.le_of_ble_eq_true rfl) rfl ?_
        refine a_iload_n cx dX10_middle_43 rfl ?_
        refine a_aload cx dX10_middle_44 rfl ?_
        refine a_get cx fl_X10_38.g dX10_middle_46 hsh (by exact rfl) ?_
        refine a_aload cx dX10_middle_49 rfl ?_
        refine a_get cx fl_X10_62 dX10_middle_51 hsh (by exact rfl) ?_
        refine a_imul cx dX10_middle_54 ?_
        refine a_iadd cx dX10_middle_55 ?_
        refine a_istore_n cx dX10_middle_56 (Nat.le_of_ble_eq_true rfl) rfl ?_
        refine a_goto cx (tgt := 9) dX10_middle_57 (by decide) ?_
        have e1_0 : msum s u 9 p' = msum s u 9 p + s (45 + p) * s (9 + p) := (hx.skip (F := msum s u 9) (fun k hk => by rw [msum, if_neg hk, Int32.add_zero])).trans (by rw [msum, if_pos hu])
        have e1_1 : msum s u 27 p' = msum s u 27 p + s (45 + p) * s (27 + p) := (hx.skip (F := msum s u 27) (fun k hk => by rw [msum, if_neg hk, Int32.add_zero])).trans (by rw [msum, if_pos hu])
        have hgo := ih p' h2 hx.2.1 (by have := hx.1; omega) hx.2.2.1 hs2 hit2
        rw [e1_0] at hgo
        rw [e1_1] at hgo
        refine AW.widen ?_ ?_ (AW.loc ?_ hgo)
        · omega
        · omega
        · exact ⟨rfl, rfl, rfl, rfl, trivial⟩
  have e0_0 : msum s u 9 p0 = msum s u 9 0 := hx0.skip (F := msum s u 9) (fun k hk => by rw [msum, if_neg hk, Int32.add_zero])
  have e0_1 : msum s u 27 p0 = msum s u 27 0 := hx0.skip (F := msum s u 27) (fun k hk => by rw [msum, if_neg hk, Int32.add_zero])
  have hgo := loop (nS s + 1) p0 _ hx0.2.1 (by omega) hx0.2.2.1 (sub.new n5) (hset_s _ _ _)
  rw [e0_0] at hgo
  rw [e0_1] at hgo
  exact AW.widen (by omega) (by omega) hgo
