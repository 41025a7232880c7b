/-! FLOCKS: their iterators -/
set_option maxRecDepth 100000
/-- p is the first place from i on whose sheep belongs to u, or the end -/
def NX (s : SF) (u : Int32) (i p : Nat) : Prop := i ≤ p ∧ p ≤ nS s ∧ (p < nS s → s (63 + p) = u) ∧ ∀ k, i ≤ k → k < p → ¬ s (63 + k) = u
theorem NX.skip {s : SF} {u : Int32} {i p : Nat} {α : Type} {F : Nat → α} (hF : ∀ k, ¬ s (63 + k) = u → F (k + 1) = F k) (h : NX s u i p) : F p = F i := by
  obtain ⟨h1, -, -, h4⟩ := h
  have : ∀ j, i + j ≤ p → F (i + j) = F i := by
    intro j
    induction j with
    | zero => intro _; rfl
    | succ j ih =>
      intro hj
      rw [← ih (by omega)]
      exact hF (i + j) (h4 _ (by omega) (by omega))
  have h2 := this (p - i) (by omega)
  rwa [show i + (p - i) = p by omega] at h2
abbrev flE (u : Int32) (f : Nat) : va_E := eO 8 [.int u, .ref f]
abbrev fiE (p : Int32) (fl : Nat) : va_E := eO 9 [.int p, .ref fl]
abbrev rm_X11_next_3 : Room := { frames := 3, cells := 0, slots := 0, locals := 64 }
set_option maxHeartbeats 4000000 in
theorem f11_next_3 {lx : Launch} {g : GP} {h : AH} (htr : lx.stackTraces = false) {hb : AH} {f a ea ca b eb cb d : Nat} {ma mb : Int32} {ls lh : List Nat} {s : SF} (hF : FA g hb h f s a ea ma ca b eb mb cb d ls lh) (hn : nS s ≤ 18) {fl : Nat} {u : Int32} (hfl : h fl = some (eO 8 [.int u, .ref f])) {it i : Nat} {at0 : Int32} (hit : h it = some (fiE at0 fl)) (hi : i ≤ nS s) : KT lx g yX11_next_3 (ws_ yX11_next_3 cX11_next_3 3 (some .int)) rm_X11_next_3 0 0 [.ref it, .int (nI i)] h (fun v h' => ∃ p, v = some (.int (nI p)) ∧ h' = h ∧ NX s u i p) (noX) := by
  refine KT.of (by decide +kernel) htr (Nat.le_of_ble_eq_true rfl) (L0 := [some (.ref it), some (.int (nI i)), none]) rfl ?_
  intro M cx hl9 hq hin hnx
  refine a_iload_n cx dX11_next_3_0 rfl ?_
  refine a_istore_n cx dX11_next_3_1 (Nat.le_of_ble_eq_true rfl) rfl ?_
  have loop : ∀ (j k : Nat), i ≤ k → k ≤ nS s → nS s < k + j → (∀ q, i ≤ q → q < k → ¬ s (63 + q) = u) → AW g M 0 0 2 [some (.ref it), some (.int (nI i)), some (.int (nI k))] [] h := by
    intro j
    induction j with
    | zero => intro k h0 h1 h2; omega
    | succ j ih =>
      intro k h0 h1 h2 hx0
      refine a_iload_n cx dX11_next_3_2 rfl ?_
      refine a_aload_n cx dX11_next_3_3 rfl ?_
      refine a_get cx fl_X11_1.g dX11_next_3_4 hit (by exact rfl) ?_
      refine a_get cx fl_X11_21 dX11_next_3_7 hfl (by exact rfl) ?_
      refine a_get cx fl_X11_27 dX11_next_3_10 hF.o (by exact rfl) ?_
      refine c_Vp cx (j2_size cx.htr hF.la.1) (lw_V q331 q274 q275 q81 q276) dn_J2_size (RN.of rfl rfl rfl rfl) rfl hF.la.1 rfl rfl rfl (Nat.le_of_ble_eq_true rfl) dX11_next_3_13 (Nat.le_of_ble_eq_true rfl) (Nat.le_of_ble_eq_true rfl) ?_
      refine AW.topi (congrArg nI hF.nl) ?_
      refine a_icmp_ge cx (tgt := 55) dX11_next_3_16 (by decide) (fun c16 => ?_) (fun c16 => ?_)
      · have d16 := le_nI c16 (by omega) (by omega)
        refine a_iload_n cx dX11_next_3_55 rfl ?_
        exact a_iret cx hq dX11_next_3_56 ⟨k, rfl, rfl, h0, h1, fun z => absurd z (by omega), hx0⟩ (Nat.le_of_ble_eq_true rfl) (Nat.le_of_ble_eq_true rfl)
      · have d16 := nle_nI c16 (by omega) (by omega)
        refine a_aload_n cx dX11_next_3_19 rfl ?_
        refine a_get cx fl_X11_1.g dX11_next_3_20 hit (by exact rfl) ?_
        refine a_get cx fl_X11_21 dX11_next_3_23 hfl (by exact rfl) ?_
        refine a_get cx fl_X11_27 dX11_next_3_26 hF.o (by exact rfl) ?_
        refine a_iload_n cx dX11_next_3_29 rfl ?_
        refine c_Vp cx (j2_get (i := k) cx.htr hF.la (by rw [hF.nl]; exact d16)) (lw_V q425 q426 q427 q81 q428) dn_J2_get (RN.of rfl rfl rfl rfl) rfl hF.la.1 rfl rfl rfl (Nat.le_of_ble_eq_true rfl) dX11_next_3_30 (Nat.le_of_ble_eq_true rfl) (Nat.le_of_ble_eq_true rfl) ?_
        refine a_castS (r := (RX4, TX4, 4)) cx q439 dX11_next_3_33 (hF.sh d16) rfl ?_
        refine a_get cx fl_X11_45.g dX11_next_3_36 (hF.sh d16) (by exact rfl) ?_
        refine a_aload_n cx dX11_next_3_39 rfl ?_
        refine a_get cx fl_X11_1.g dX11_next_3_40 hit (by exact rfl) ?_
        refine a_get cx fl_X11_48 dX11_next_3_43 hfl (by exact rfl) ?_
        refine a_icmp_eq cx (tgt := 55) dX11_next_3_46 (by decide) (fun c46 => ?_) (fun c46 => ?_)
        · refine a_iload_n cx dX11_next_3_55 rfl ?_
          exact a_iret cx hq dX11_next_3_56 ⟨k, rfl, rfl, h0, h1, fun _ => c46, hx0⟩ (Nat.le_of_ble_eq_true rfl) (Nat.le_of_ble_eq_true rfl)
        · refine a_iincN cx dX11_next_3_49 rfl (Nat.le_of_ble_eq_true rfl) rfl ?_
          refine a_goto cx (tgt := 2) dX11_next_3_52 (by decide) ?_
          exact ih (k + 1) (by omega) (by omega) (by omega) (fun q h3 h4 => by
            by_cases e : q = k
            · subst e; exact c46
            · exact hx0 q h3 (by omega))
  exact loop (nS s + 1) i (Nat.le_refl _) hi (by omega) (fun q h1 h2 => by omega)
abbrev rm_X11_hasNext : Room := { frames := 1, cells := 0, slots := 0, locals := 20 }
set_option maxHeartbeats 4000000 in
theorem f11_hasNext {lx : Launch} {g : GP} {h : AH} (htr : lx.stackTraces = false) {hb : AH} {f a ea ca b eb cb d : Nat} {ma mb : Int32} {ls lh : List Nat} {s : SF} (hF : FA g hb h f s a ea ma ca b eb mb cb d ls lh) (hn : nS s ≤ 18) {fl : Nat} {u : Int32} (hfl : h fl = some (eO 8 [.int u, .ref f])) {it p : Nat} (hit : h it = some (fiE (nI p) fl)) (hp : p ≤ nS s) : KT lx g yX11_hasNext (ws_ yX11_hasNext cX11_hasNext 1 (some .boolean)) rm_X11_hasNext 0 0 [.ref it] h (isP (.int (bI (decide (p < nS s)))) h) (noX) := by
  refine KT.of (by decide +kernel) htr (Nat.le_of_ble_eq_true rfl) (L0 := [some (.ref it)]) rfl ?_
  intro M cx hl9 hq hin hnx
  refine a_aload_n cx dX11_hasNext_0 rfl ?_
  refine a_get cx fl_X11_17.g dX11_hasNext_1 hit (by exact rfl) ?_
  refine a_aload_n cx dX11_hasNext_4 rfl ?_
  refine a_get cx fl_X11_1.g dX11_hasNext_5 hit (by exact rfl) ?_
  refine a_get cx fl_X11_21 dX11_hasNext_8 hfl (by exact rfl) ?_
  refine a_get cx fl_X11_27 dX11_hasNext_11 hF.o (by exact rfl) ?_
  refine c_Vp cx (j2_size cx.htr hF.la.1) (lw_V q331 q274 q275 q81 q276) dn_J2_size (RN.of rfl rfl rfl rfl) rfl hF.la.1 rfl rfl rfl (Nat.le_of_ble_eq_true rfl) dX11_hasNext_14 (Nat.le_of_ble_eq_true rfl) (Nat.le_of_ble_eq_true rfl) ?_
  refine AW.topi (congrArg nI hF.nl) ?_
  refine a_icmp_ge cx (tgt := 24) dX11_hasNext_17 (by decide) (fun c17 => ?_) (fun c17 => ?_)
  · have r : bI (decide (p < nS s)) = 0 := bI_f (decide_eq_false (Nat.not_lt.mpr (le_nI c17 (by omega) (by omega))))
    refine a_iconst cx (v := 0) dX11_hasNext_24 (by decide) ?_
    exact a_zret cx hq dX11_hasNext_25 rfl ⟨by rw [r], rfl⟩ (Nat.le_of_ble_eq_true rfl) (Nat.le_of_ble_eq_true rfl)
  · have r : bI (decide (p < nS s)) = 1 := bI_t (decide_eq_true (nle_nI c17 (by omega) (by omega)))
    refine a_iconst cx (v := 1) dX11_hasNext_20 (by decide) ?_
    refine a_goto cx (tgt := 25) dX11_hasNext_21 (by decide) ?_
    exact a_zret cx hq dX11_hasNext_25 rfl ⟨by rw [r], rfl⟩ (Nat.le_of_ble_eq_true rfl) (Nat.le_of_ble_eq_true rfl)
abbrev rm_X11_next_2 : Room := { frames := 4, cells := 0, slots := 0, locals := 86 }
set_option maxHeartbeats 4000000 in
theorem f11_next_2 {lx : Launch} {g : GP} {h : AH} (htr : lx.stackTraces = false) {hb : AH} {f a ea ca b eb cb d : Nat} {ma mb : Int32} {ls lh : List Nat} {s : SF} (hF : FA g hb h f s a ea ma ca b eb mb cb d ls lh) (hn : nS s ≤ 18) {fl : Nat} {u : Int32} (hfl : h fl = some (eO 8 [.int u, .ref f])) {it p : Nat} (hit : h it = some (fiE (nI p) fl)) (hp : p < nS s) : KT lx g yX11_next_2 (ws_ yX11_next_2 cX11_next_2 2 (some (.object "FlockHuts$Sheep"))) rm_X11_next_2 0 0 [.ref it] h (fun v h' => ∃ p', v = some (.ref (ls.getD p 0)) ∧ NX s u (p + 1) p' ∧ h' = hset h it (fiE (nI p') fl)) (noX) := by
  refine KT.of (by decide +kernel) htr (Nat.le_of_ble_eq_true rfl) (L0 := [some (.ref it), none]) rfl ?_
  intro M cx hl9 hq hin hnx
  refine a_aload_n cx dX11_next_2_0 rfl ?_
  refine c_Vp cx (f11_hasNext cx.htr hF hn hfl hit (Nat.le_of_lt hp)) (lw_V q351 q328 q2422 q111 q330) dn_X11_hasNext (RN.of rfl rfl rfl rfl) rfl hit rfl rfl rfl (Nat.le_of_ble_eq_true rfl) dX11_next_2_1 (Nat.le_of_ble_eq_true rfl) (Nat.le_of_ble_eq_true rfl) ?_
  refine c_SN cx (f1_checkElementk cx.htr (show ¬ bI (decide (p < nS s)) = 0 by rw [bI_t (decide_eq_true hp)]; decide)) (lw_meth q354) q77 q352 q353 dn_X1_checkElement (RN.of rfl rfl rfl rfl) rfl rfl (Nat.le_of_ble_eq_true rfl) dX11_next_2_4 (Nat.le_of_ble_eq_true rfl) (Nat.le_of_ble_eq_true rfl) (fun v9 h hp9 => ?_) (fun E9 q9 h9 hx9 => hx9.elim)
  obtain ⟨rfl, rfl⟩ := hp9
  refine a_aload_n cx dX11_next_2_7 rfl ?_
  refine a_get cx fl_X11_1.g dX11_next_2_8 hit (by exact rfl) ?_
  refine a_get cx fl_X11_21 dX11_next_2_11 hfl (by exact rfl) ?_
  refine a_get cx fl_X11_27 dX11_next_2_14 hF.o (by exact rfl) ?_
  refine a_aload_n cx dX11_next_2_17 rfl ?_
  refine a_get cx fl_X11_17.g dX11_next_2_18 hit (by exact rfl) ?_
  refine c_Vp cx (j2_get (i := p) cx.htr hF.la (by rw [hF.nl]; exact hp)) (lw_V q425 q426 q427 q81 q428) dn_J2_get (RN.of rfl rfl rfl rfl) rfl hF.la.1 rfl rfl rfl (Nat.le_of_ble_eq_true rfl) dX11_next_2_21 (Nat.le_of_ble_eq_true rfl) (Nat.le_of_ble_eq_true rfl) ?_
  refine a_castS (r := (RX4, TX4, 4)) cx q439 dX11_next_2_24 (hF.sh hp) rfl ?_
  refine a_astore_n cx dX11_next_2_27 (Nat.le_of_ble_eq_true rfl) rfl ?_
  refine a_aload_n cx dX11_next_2_28 rfl ?_
  refine a_aload_n cx dX11_next_2_29 rfl ?_
  refine a_aload_n cx dX11_next_2_30 rfl ?_
  refine a_get cx fl_X11_17.g dX11_next_2_31 hit (by exact rfl) ?_
  refine a_iconst cx (v := 1) dX11_next_2_34 (by decide) ?_
  refine a_iadd cx dX11_next_2_35 ?_
  refine AW.topi (nI_1 _) ?_
  refine c_V cx (f11_next_3 cx.htr hF hn hfl hit (i := p + 1) (by omega)) (lw_V q440 q442 qs1 q111 q444) dn_X11_next_3 (RN.of rfl rfl rfl rfl) rfl hit rfl rfl rfl (Nat.le_of_ble_eq_true rfl) dX11_next_2_36 (Nat.le_of_ble_eq_true rfl) (Nat.le_of_ble_eq_true rfl) (fun v9 h hp9 => ?_) (fun E9 q9 h9 hx9 => hx9.elim)
  obtain ⟨p', rfl, rfl, hx⟩ := hp9
  refine a_put cx fl_X11_17 dX11_next_2_39 hit rfl rfl (by exact (Nat.le_of_ble_eq_true rfl)) ?_
  refine a_aload_n cx dX11_next_2_42 rfl ?_
  exact a_aret cx hq dX11_next_2_43 (Or.inl ⟨_, rfl⟩) ⟨p', rfl, hx, rfl⟩ (Nat.le_of_ble_eq_true rfl) (Nat.le_of_ble_eq_true rfl)
abbrev rm_X11_next : Room := { frames := 5, cells := 0, slots := 0, locals := 107 }
set_option maxHeartbeats 4000000 in
theorem f11_next {lx : Launch} {g : GP} {h : AH} (htr : lx.stackTraces = false) {hb : AH} {f a ea ca b eb cb d : Nat} {ma mb : Int32} {ls lh : List Nat} {s : SF} (hF : FA g hb h f s a ea ma ca b eb mb cb d ls lh) (hn : nS s ≤ 18) {fl : Nat} {u : Int32} (hfl : h fl = some (eO 8 [.int u, .ref f])) {it p : Nat} (hit : h it = some (fiE (nI p) fl)) (hp : p < nS s) : KT lx g yX11_next (ws_ yX11_next cX11_next 1 (some (.object "java/lang/Object"))) rm_X11_next 0 0 [.ref it] h (fun v h' => ∃ p', v = some (.ref (ls.getD p 0)) ∧ NX s u (p + 1) p' ∧ h' = hset h it (fiE (nI p') fl)) (noX) := by
  refine KT.of (by decide +kernel) htr (Nat.le_of_ble_eq_true rfl) (L0 := [some (.ref it)]) rfl ?_
  intro M cx hl9 hq hin hnx
  refine a_aload_n cx dX11_next_0 rfl ?_
  refine c_V cx (f11_next_2 cx.htr hF hn hfl hit hp) (lw_V q347 q348 q349 q111 q350) dn_X11_next_2 (RN.of rfl rfl rfl rfl) rfl hit rfl rfl rfl (Nat.le_of_ble_eq_true rfl) dX11_next_1 (Nat.le_of_ble_eq_true rfl) (Nat.le_of_ble_eq_true rfl) (fun v9 h hp9 => ?_) (fun E9 q9 h9 hx9 => hx9.elim)
  obtain ⟨p', rfl, hx, rfl⟩ := hp9
  exact a_aret cx hq dX11_next_4 (Or.inl ⟨_, rfl⟩) ⟨p', rfl, hx, rfl⟩ (Nat.le_of_ble_eq_true rfl) (Nat.le_of_ble_eq_true rfl)
