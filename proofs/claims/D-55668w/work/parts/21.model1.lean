/-! THE MODEL, small methods and sums -/
set_option maxRecDepth 100000
abbrev rm_X3_thrown : Room := { frames := 0, cells := 0, slots := 0, locals := 0 }
set_option maxHeartbeats 4000000 in
theorem k3_thrown {l : Launch} {g : GP} {ad : Nat → Nat} {σ : MS} (htr : l.stackTraces = false)  : MKi l g ad yX3_thrown cX3_thrown 1 (some .int) rm_X3_thrown σ [] (σ.1 0) (σ) := by
  refine MK.of (by decide +kernel) htr (Nat.le_of_ble_eq_true rfl) (L0 := [some (.ref (ad 0))]) rfl ?_
  intro M h0 h cx _ hq hm
  refine a_aload_n cx dX3_thrown_0 rfl ?_
  refine a_get cx fl_X3_53.g dX3_thrown_1 hm.o rfl ?_
  exact a_iret cx hq dX3_thrown_4 ⟨_, ⟨rfl, rfl⟩, hm⟩ (Nat.zero_le _) (Nat.zero_le _)
abbrev rm_X3_fails : Room := { frames := 0, cells := 0, slots := 0, locals := 0 }
set_option maxHeartbeats 4000000 in
theorem k3_fails {l : Launch} {g : GP} {ad : Nat → Nat} {σ : MS} (htr : l.stackTraces = false) {u : Int32} : MKi l g ad yX3_fails cX3_fails 2 (some .int) rm_X3_fails σ [.int u] (0) (mv σ 0 u) := by
  refine MK.of (by decide +kernel) htr (Nat.le_of_ble_eq_true rfl) (L0 := [some (.ref (ad 0)), some (.int u)]) rfl ?_
  intro M h0 h cx _ hq hm
  refine a_aload_n cx dX3_fails_0 rfl ?_
  refine a_iload_n cx dX3_fails_1 rfl ?_
  refine m_put cx (i := 0) fl_X3_53 dX3_fails_2 hm rfl rfl rfl (fun h hm => ?_)
  refine a_iconst cx (v := 0) dX3_fails_5 (by decide) ?_
  exact a_iret cx hq dX3_fails_6 ⟨_, ⟨rfl, rfl⟩, hm⟩ (Nat.zero_le _) (Nat.zero_le _)
abbrev rm_X3_refused : Room := { frames := 0, cells := 0, slots := 0, locals := 0 }
set_option maxHeartbeats 4000000 in
theorem k3_refused {l : Launch} {g : GP} {ad : Nat → Nat} {σ : MS} (htr : l.stackTraces = false) {r u : Int32} : MKi l g ad yX3_refused cX3_refused 3 (some .int) rm_X3_refused σ [.int r, .int u] (r) (mv σ 9 u) := by
  refine MK.of (by decide +kernel) htr (Nat.le_of_ble_eq_true rfl) (L0 := [some (.ref (ad 0)), some (.int r), some (.int u)]) rfl ?_
  intro M h0 h cx _ hq hm
  refine a_aload_n cx dX3_refused_0 rfl ?_
  refine a_iload_n cx dX3_refused_1 rfl ?_
  refine m_put cx (i := 9) fl_X3_59 dX3_refused_2 hm rfl rfl rfl (fun h hm => ?_)
  refine a_iload_n cx dX3_refused_5 rfl ?_
  exact a_iret cx hq dX3_refused_6 ⟨_, ⟨rfl, rfl⟩, hm⟩ (Nat.zero_le _) (Nat.zero_le _)
abbrev rm_X3_done : Room := { frames := 0, cells := 0, slots := 0, locals := 0 }
set_option maxHeartbeats 4000000 in
theorem k3_done {l : Launch} {g : GP} {ad : Nat → Nat} {σ : MS} (htr : l.stackTraces = false) {u : Int32} : MKi l g ad yX3_done cX3_done 2 (some .int) rm_X3_done σ [.int u] (0) (mv σ 10 u) := by
  refine MK.of (by decide +kernel) htr (Nat.le_of_ble_eq_true rfl) (L0 := [some (.ref (ad 0)), some (.int u)]) rfl ?_
  intro M h0 h cx _ hq hm
  refine a_aload_n cx dX3_done_0 rfl ?_
  refine a_iload_n cx dX3_done_1 rfl ?_
  refine m_put cx (i := 10) fl_X3_62 dX3_done_2 hm rfl rfl rfl (fun h hm => ?_)
  refine a_iconst cx (v := 0) dX3_done_5 (by decide) ?_
  exact a_iret cx hq dX3_done_6 ⟨_, ⟨rfl, rfl⟩, hm⟩ (Nat.zero_le _) (Nat.zero_le _)
abbrev rm_X3_in : Room := { frames := 0, cells := 0, slots := 0, locals := 0 }
set_option maxHeartbeats 4000000 in
theorem k3_in {l : Launch} {g : GP} (htr : l.stackTraces = false) {v a b : Int32} : SKi l g yX3_in cX3_in 3 (some .boolean) rm_X3_in [.int v, .int a, .int b] (bI (inR v a b)) := by
  refine SKi.of (by decide +kernel) htr (Nat.le_of_ble_eq_true rfl) (L0 := [some (.int v), some (.int a), some (.int b)]) rfl ?_
  intro M h cx _ hq
  refine a_iload_n cx dX3_in_0 rfl ?_
  refine a_iload_n cx dX3_in_1 rfl ?_
  refine a_icmp_lt cx (tgt := 14) dX3_in_2 (by decide) (fun c2 => ?_) (fun c2 => ?_)
  · have r : bI (inR v a b) = 0 := bI_f (by rw [Bool.eq_false_iff]; intro q; exact absurd ((inR_iff _ _ _).mp q).1 (Int32.not_le.mpr c2))
    refine a_iconst cx (v := 0) dX3_in_14 (by decide) ?_
    exact a_zret cx hq dX3_in_15 rfl ⟨by rw [r], rfl⟩ (Nat.le_of_ble_eq_true rfl) (Nat.le_of_ble_eq_true rfl)
  · refine a_iload_n cx dX3_in_5 rfl ?_
    refine a_iload_n cx dX3_in_6 rfl ?_
    refine a_icmp_gt cx (tgt := 14) dX3_in_7 (by decide) (fun c7 => ?_) (fun c7 => ?_)
    · have r : bI (inR v a b) = 0 := bI_f (by rw [Bool.eq_false_iff]; intro q; exact absurd ((inR_iff _ _ _).mp q).2 (Int32.not_le.mpr c7))
      refine a_iconst cx (v := 0) dX3_in_14 (by decide) ?_
      exact a_zret cx hq dX3_in_15 rfl ⟨by rw [r], rfl⟩ (Nat.le_of_ble_eq_true rfl) (Nat.le_of_ble_eq_true rfl)
    · have r : bI (inR v a b) = 1 := bI_t ((inR_iff _ _ _).mpr ⟨Int32.not_lt.mp c2, Int32.not_lt.mp c7⟩)
      refine a_iconst cx (v := 1) dX3_in_10 (by decide) ?_
      refine a_goto cx (tgt := 15) dX3_in_11 (by decide) ?_
      exact a_zret cx hq dX3_in_15 rfl ⟨by rw [r], rfl⟩ (Nat.le_of_ble_eq_true rfl) (Nat.le_of_ble_eq_true rfl)
abbrev rm_X3_isPlace : Room := { frames := 1, cells := 0, slots := 0, locals := 22 }
set_option maxHeartbeats 4000000 in
theorem k3_isPlace {l : Launch} {g : GP} (htr : l.stackTraces = false) {x y : Int32} : SKi l g yX3_isPlace cX3_isPlace 2 (some .boolean) rm_X3_isPlace [.int x, .int y] (bI (inP x && inP y)) := by
  refine SKi.of (by decide +kernel) htr (Nat.le_of_ble_eq_true rfl) (L0 := [some (.int x), some (.int y)]) rfl ?_
  intro M h cx _ hq
  refine a_iload_n cx dX3_isPlace_0 rfl ?_
  refine a_iconst cx (v := 0) dX3_isPlace_1 (by decide) ?_
  refine a_bipush cx (v := 99) dX3_isPlace_2 (by decide) ?_
  refine s_calli cx (k3_in cx.htr) (lw_S q2067 q2068 q87 q2069) dn_X3_in (RN.of rfl rfl rfl rfl) rfl rfl (Nat.le_of_ble_eq_true rfl) dX3_isPlace_4 (Nat.zero_le _) (Nat.zero_le _) ?_
  refine a_if_eq cx (tgt := 24) dX3_isPlace_7 (by decide) (fun c7 => ?_) (fun c7 => ?_)
  · have r : bI (inP x && inP y) = 0 := bI_f (by rw [show inP x = false from (bI_0 _).mp c7]; rfl)
    refine a_iconst cx (v := 0) dX3_isPlace_24 (by decide) ?_
    exact a_zret cx hq dX3_isPlace_25 rfl ⟨by rw [r], rfl⟩ (Nat.le_of_ble_eq_true rfl) (Nat.le_of_ble_eq_true rfl)
  · refine a_iload_n cx dX3_isPlace_10 rfl ?_
    refine a_iconst cx (v := 0) dX3_isPlace_11 (by decide) ?_
    refine a_bipush cx (v := 99) dX3_isPlace_12 (by decide) ?_
    refine s_calli cx (k3_in cx.htr) (lw_S q2067 q2068 q87 q2069) dn_X3_in (RN.of rfl rfl rfl rfl) rfl rfl (Nat.le_of_ble_eq_true rfl) dX3_isPlace_14 (Nat.zero_le _) (Nat.zero_le _) ?_
    refine a_if_eq cx (tgt := 24) dX3_isPlace_17 (by decide) (fun c17 => ?_) (fun c17 => ?_)
    · have r : bI (inP x && inP y) = 0 := bI_f (by rw [show inP y = false from (bI_0 _).mp c17]; exact Bool.and_false _)
      refine a_iconst cx (v := 0) dX3_isPlace_24 (by decide) ?_
      exact a_zret cx hq dX3_isPlace_25 rfl ⟨by rw [r], rfl⟩ (Nat.le_of_ble_eq_true rfl) (Nat.le_of_ble_eq_true rfl)
    · have r : bI (inP x && inP y) = 1 := bI_t (by rw [show inP x = true from bI_n0 c7, show inP y = true from bI_n0 c17]; rfl)
      refine a_iconst cx (v := 1) dX3_isPlace_20 (by decide) ?_
      refine a_goto cx (tgt := 25) dX3_isPlace_21 (by decide) ?_
      exact a_zret cx hq dX3_isPlace_25 rfl ⟨by rw [r], rfl⟩ (Nat.le_of_ble_eq_true rfl) (Nat.le_of_ble_eq_true rfl)
abbrev rm_X3_squared : Room := { frames := 0, cells := 0, slots := 0, locals := 0 }
set_option maxHeartbeats 4000000 in
theorem k3_squared {l : Launch} {g : GP} (htr : l.stackTraces = false) {a : Int32} : SKi l g yX3_squared cX3_squared 1 (some .int) rm_X3_squared [.int a] (a * a) := by
  refine SKi.of (by decide +kernel) htr (Nat.le_of_ble_eq_true rfl) (L0 := [some (.int a)]) rfl ?_
  intro M h cx _ hq
  refine a_iload_n cx dX3_squared_0 rfl ?_
  refine a_iload_n cx dX3_squared_1 rfl ?_
  refine a_imul cx dX3_squared_2 ?_
  exact a_iret cx hq dX3_squared_3 ⟨rfl, rfl⟩ (Nat.le_of_ble_eq_true rfl) (Nat.le_of_ble_eq_true rfl)
abbrev rm_X3_isSheep : Room := { frames := 1, cells := 0, slots := 0, locals := 22 }
set_option maxHeartbeats 4000000 in
theorem k3_isSheep {l : Launch} {g : GP} {ad : Nat → Nat} {σ : MS} (htr : l.stackTraces = false) {u : Int32} (hw : WS (σ.2 1)) : MKi l g ad yX3_isSheep cX3_isSheep 2 (some .boolean) rm_X3_isSheep σ [.int u] (bI (isIx u (nS (σ.2 1)))) (σ) := by
  refine MK.of (by decide +kernel) htr (Nat.le_of_ble_eq_true rfl) (L0 := [some (.ref (ad 0)), some (.int u)]) rfl ?_
  intro M h0 h cx _ hq hm
  obtain ⟨hw1, hw2, hw3, hw4⟩ := hw
  refine a_iload_n cx dX3_isSheep_0 rfl ?_
  refine a_iconst cx (v := 0) dX3_isSheep_1 (by decide) ?_
  refine a_aload_n cx dX3_isSheep_2 rfl ?_
  refine a_get cx fl_X3_7.g dX3_isSheep_3 hm.o rfl ?_
  refine a_iconst cx (v := 0) dX3_isSheep_6 (by decide) ?_
  refine a_iald cx dX3_isSheep_7 hm.a1 (show (0 : Int32) = nI 0 from rfl) (by omega) (by decide) ?_
  refine AW.topi hw1 ?_
  refine a_iconst cx (v := 1) dX3_isSheep_8 (by decide) ?_
  refine a_isub cx dX3_isSheep_9 ?_
  refine s_calli cx (k3_in cx.htr) (lw_S q2067 q2068 q87 q2069) dn_X3_in (RN.of rfl rfl rfl rfl) rfl rfl (Nat.le_of_ble_eq_true rfl) dX3_isSheep_10 (Nat.zero_le _) (Nat.zero_le _) ?_
  exact a_zret cx hq dX3_isSheep_13 (narrow_bI _) ⟨_, ⟨rfl, rfl⟩, hm⟩ (Nat.zero_le _) (Nat.zero_le _)
abbrev rm_X3_isHut : Room := { frames := 1, cells := 0, slots := 0, locals := 22 }
set_option maxHeartbeats 4000000 in
theorem k3_isHut {l : Launch} {g : GP} {ad : Nat → Nat} {σ : MS} (htr : l.stackTraces = false) {u : Int32} (hw : WS (σ.2 1)) : MKi l g ad yX3_isHut cX3_isHut 2 (some .boolean) rm_X3_isHut σ [.int u] (bI (isIx u (nH (σ.2 1)))) (σ) := by
  refine MK.of (by decide +kernel) htr (Nat.le_of_ble_eq_true rfl) (L0 := [some (.ref (ad 0)), some (.int u)]) rfl ?_
  intro M h0 h cx _ hq hm
  obtain ⟨hw1, hw2, hw3, hw4⟩ := hw
  refine a_iload_n cx dX3_isHut_0 rfl ?_
  refine a_iconst cx (v := 0) dX3_isHut_1 (by decide) ?_
  refine a_aload_n cx dX3_isHut_2 rfl ?_
  refine a_get cx fl_X3_7.g dX3_isHut_3 hm.o rfl ?_
  refine a_iconst cx (v := 1) dX3_isHut_6 (by decide) ?_
  refine a_iald cx dX3_isHut_7 hm.a1 (show (1 : Int32) = nI 1 from rfl) (by omega) (by decide) ?_
  refine AW.topi hw3 ?_
  refine a_iconst cx (v := 1) dX3_isHut_8 (by decide) ?_
  refine a_isub cx dX3_isHut_9 ?_
  refine s_calli cx (k3_in cx.htr) (lw_S q2067 q2068 q87 q2069) dn_X3_in (RN.of rfl rfl rfl rfl) rfl rfl (Nat.le_of_ble_eq_true rfl) dX3_isHut_10 (Nat.zero_le _) (Nat.zero_le _) ?_
  exact a_zret cx hq dX3_isHut_13 (narrow_bI _) ⟨_, ⟨rfl, rfl⟩, hm⟩ (Nat.zero_le _) (Nat.zero_le _)
abbrev rm_X3_farTo : Room := { frames := 1, cells := 0, slots := 0, locals := 20 }
set_option maxHeartbeats 4000000 in
theorem k3_farTo {l : Launch} {g : GP} {ad : Nat → Nat} {σ : MS} (htr : l.stackTraces = false) {x y : Int32} {j : Nat} (hj : j < 6) : MKi l g ad yX3_farTo cX3_farTo 4 (some .int) rm_X3_farTo σ [.int x, .int y, .int (nI j)] (fTo (σ.2 1) x y j) (σ) := by
  refine MK.of (by decide +kernel) htr (Nat.le_of_ble_eq_true rfl) (L0 := [some (.ref (ad 0)), some (.int x), some (.int y), some (.int (nI j))]) rfl ?_
  intro M h0 h cx _ hq hm
  refine a_iload_n cx dX3_farTo_0 rfl ?_
  refine a_aload_n cx dX3_farTo_1 rfl ?_
  refine a_get cx fl_X3_7.g dX3_farTo_2 hm.o rfl ?_
  refine a_bipush cx (v := 81) dX3_farTo_5 (by decide) ?_
  refine a_iload_n cx dX3_farTo_7 rfl ?_
  refine a_iadd cx dX3_farTo_8 ?_
  refine a_iald cx dX3_farTo_9 hm.a1 (ix4 _) (by omega) (by decide) ?_
  refine a_isub cx dX3_farTo_10 ?_
  refine s_calli cx (k3_squared cx.htr) (lw_S q2082 q2083 q87 q2084) dn_X3_squared (RN.of rfl rfl rfl rfl) rfl rfl (Nat.le_of_ble_eq_true rfl) dX3_farTo_11 (Nat.zero_le _) (Nat.zero_le _) ?_
  refine a_iload_n cx dX3_farTo_14 rfl ?_
  refine a_aload_n cx dX3_farTo_15 rfl ?_
  refine a_get cx fl_X3_7.g dX3_farTo_16 hm.o rfl ?_
  refine a_bipush cx (v := 87) dX3_farTo_19 (by decide) ?_
  refine a_iload_n cx dX3_farTo_21 rfl ?_
  refine a_iadd cx dX3_farTo_22 ?_
  refine a_iald cx dX3_farTo_23 hm.a1 (ix5 _) (by omega) (by decide) ?_
  refine a_isub cx dX3_farTo_24 ?_
  refine s_calli cx (k3_squared cx.htr) (lw_S q2082 q2083 q87 q2084) dn_X3_squared (RN.of rfl rfl rfl rfl) rfl rfl (Nat.le_of_ble_eq_true rfl) dX3_farTo_25 (Nat.zero_le _) (Nat.zero_le _) ?_
  refine a_iadd cx dX3_farTo_28 ?_
  exact a_iret cx hq dX3_farTo_29 ⟨_, ⟨rfl, rfl⟩, hm⟩ (Nat.zero_le _) (Nat.zero_le _)
abbrev rm_X3_far : Room := { frames := 2, cells := 0, slots := 0, locals := 43 }
set_option maxHeartbeats 4000000 in
theorem k3_far {l : Launch} {g : GP} {ad : Nat → Nat} {σ : MS} (htr : l.stackTraces = false) {i j : Nat} (hi : i < 18) (hj : j < 6) : MKi l g ad yX3_far cX3_far 3 (some .int) rm_X3_far σ [.int (nI i), .int (nI j)] (far (σ.2 1) i j) (σ) := by
  refine MK.of (by decide +kernel) htr (Nat.le_of_ble_eq_true rfl) (L0 := [some (.ref (ad 0)), some (.int (nI i)), some (.int (nI j))]) rfl ?_
  intro M h0 h cx _ hq hm
  refine a_aload_n cx dX3_far_0 rfl ?_
  refine a_aload_n cx dX3_far_1 rfl ?_
  refine a_get cx fl_X3_7.g dX3_far_2 hm.o rfl ?_
  refine a_bipush cx (v := 9) dX3_far_5 (by decide) ?_
  refine a_iload_n cx dX3_far_7 rfl ?_
  refine a_iadd cx dX3_far_8 ?_
  refine a_iald cx dX3_far_9 hm.a1 (ix0 _) (by omega) (by decide) ?_
  refine a_aload_n cx dX3_far_10 rfl ?_
  refine a_get cx fl_X3_7.g dX3_far_11 hm.o rfl ?_
  refine a_bipush cx (v := 27) dX3_far_14 (by decide) ?_
  refine a_iload_n cx dX3_far_16 rfl ?_
  refine a_iadd cx dX3_far_17 ?_
  refine a_iald cx dX3_far_18 hm.a1 (ix1 _) (by omega) (by decide) ?_
  refine a_iload_n cx dX3_far_19 rfl ?_
  refine m_calli cx (k3_farTo cx.htr hj) (lw_V q2078 q2080 qs31 q87 q2081) dn_X3_farTo (RN.of rfl rfl rfl rfl) rfl hm rfl rfl (Nat.le_of_ble_eq_true rfl) dX3_far_20 (Nat.zero_le _) (Nat.zero_le _) (fun h hm => ?_)
  exact a_iret cx hq dX3_far_23 ⟨_, ⟨rfl, rfl⟩, hm⟩ (Nat.zero_le _) (Nat.zero_le _)
abbrev rm_X3_nearestTo : Room := { frames := 2, cells := 0, slots := 0, locals := 43 }
set_option maxHeartbeats 4000000 in
theorem k3_nearestTo {l : Launch} {g : GP} {ad : Nat → Nat} {σ : MS} (htr : l.stackTraces = false) {x y : Int32} (hw : WS (σ.2 1)) : MKi l g ad yX3_nearestTo cX3_nearestTo 5 (some .int) rm_X3_nearestTo σ [.int x, .int y] (oI (near (σ.2 1) x y)) (σ) := by
  refine MK.of (by decide +kernel) htr (Nat.le_of_ble_eq_true rfl) (L0 := [some (.ref (ad 0)), some (.int x), some (.int y), none, none]) rfl ?_
  intro M h0 h cx _ hq hm
  obtain ⟨hw1, hw2, hw3, hw4⟩ := hw
  refine a_iconst cx (v := -1) dX3_nearestTo_0 (by decide) ?_
  refine a_istore_n cx dX3_nearestTo_1 (Nat.le_of_ble_eq_true rfl) rfl ?_
  refine a_iconst cx (v := 0) dX3_nearestTo_2 (by decide) ?_
  refine a_istore cx dX3_nearestTo_3 (Nat.le_of_ble_eq_true rfl) rfl ?_
  have loop : ∀ (j k : Nat) (h : AH), k ≤ nH (σ.2 1) → nH (σ.2 1) < k + j → MSt g ad h0 (σ) h → AW g M 0 0 5 [some (.ref (ad 0)), some (.int x), some (.int y), some (.int (oI (nr (σ.2 1) x y k))), some (.int (nI k))] [] h := by
    intro j
    induction j with
    | zero => intro k h h1 h2; omega
    | succ j ih =>
      intro k h h1 h2 hm
      have hlt : ∀ b, nr (σ.2 1) x y k = some b → b < k := fun b hb => nr_lt hb
      refine a_iload cx dX3_nearestTo_5 rfl ?_
      refine a_aload_n cx dX3_nearestTo_7 rfl ?_
      refine a_get cx fl_X3_7.g dX3_nearestTo_8 hm.o rfl ?_
      refine a_iconst cx (v := 1) dX3_nearestTo_11 (by decide) ?_
      refine a_iald cx dX3_nearestTo_12 hm.a1 (show (1 : Int32) = nI 1 from rfl) (by omega) (by decide) ?_
      refine AW.topi hw3 ?_
      refine a_icmp_ge cx (tgt := 48) dX3_nearestTo_13 (by decide) (fun c13 => ?_) (fun c13 => ?_)
      · have d13 := le_nI c13 (by omega) (by omega)
        have e13 : k = nH (σ.2 1) := by omega
        subst e13
        refine a_iload_n cx dX3_nearestTo_48 rfl ?_
        exact a_iret cx hq dX3_nearestTo_49 ⟨_, ⟨rfl, rfl⟩, hm⟩ (Nat.zero_le _) (Nat.zero_le _)
      · have d13 := nle_nI c13 (by omega) (by omega)
        refine a_iload_n cx dX3_nearestTo_16 rfl ?_
        refine a_iconst cx (v := -1) dX3_nearestTo_17 (by decide) ?_
        have J : ∀ (z : Int32) (h : AH), MSt g ad h0 σ h → z = oI (nr (σ.2 1) x y (k + 1)) → AW g M 0 0 42 [some (.ref (ad 0)), some (.int x), some (.int y), some (.int z), some (.int (nI k))] [] h := by
          intro z h hm ez
          subst ez
          refine a_iincN cx dX3_nearestTo_42 rfl (Nat.le_of_ble_eq_true rfl) rfl ?_
          refine a_goto cx (tgt := 5) dX3_nearestTo_45 (by decide) ?_
          exact ih (k + 1) h (by omega) (by omega) hm
        refine a_icmp_eq cx (tgt := 39) dX3_nearestTo_18 (by decide) (fun c18 => ?_) (fun c18 => ?_)
        · have r : oI (nr (σ.2 1) x y (k + 1)) = nI k := by
            rw [nr]
            cases hq : nr (σ.2 1) x y k with
            | none => rfl
            | some b =>
              rw [hq] at c18
              exact absurd c18 (ne_m1 (by have := hlt b hq; omega))
          refine a_iload cx dX3_nearestTo_39 rfl ?_
          refine a_istore_n cx dX3_nearestTo_41 (Nat.le_of_ble_eq_true rfl) rfl ?_
          exact J _ h hm r.symm
        · obtain ⟨b, hb⟩ : ∃ b, nr (σ.2 1) x y k = some b := by
            cases hq : nr (σ.2 1) x y k with
            | none => rw [hq] at c18; exact absurd rfl c18
            | some b => exact ⟨b, rfl⟩
          have hbk := hlt b hb
          refine a_aload_n cx dX3_nearestTo_21 rfl ?_
          refine a_iload_n cx dX3_nearestTo_22 rfl ?_
          refine a_iload_n cx dX3_nearestTo_23 rfl ?_
          refine a_iload cx dX3_nearestTo_24 rfl ?_
          refine m_calli cx (k3_farTo cx.htr (by omega)) (lw_V q2078 q2080 qs31 q87 q2081) dn_X3_farTo (RN.of rfl rfl rfl rfl) rfl hm rfl rfl (Nat.le_of_ble_eq_true rfl) dX3_nearestTo_26 (Nat.zero_le _) (Nat.zero_le _) (fun h hm => ?_)
          refine a_aload_n cx dX3_nearestTo_29 rfl ?_
          refine a_iload_n cx dX3_nearestTo_30 rfl ?_
          refine a_iload_n cx dX3_nearestTo_31 rfl ?_
          refine a_iload_n cx dX3_nearestTo_32 rfl ?_
          refine AW.topi (show oI (nr (σ.2 1) x y k) = nI b by rw [hb]; rfl) ?_
          refine m_calli cx (k3_farTo cx.htr (by omega)) (lw_V q2078 q2080 qs31 q87 q2081) dn_X3_farTo (RN.of rfl rfl rfl rfl) rfl hm rfl rfl (Nat.le_of_ble_eq_true rfl) dX3_nearestTo_33 (Nat.zero_le _) (Nat.zero_le _) (fun h hm => ?_)
          refine a_icmp_ge cx (tgt := 42) dX3_nearestTo_36 (by decide) (fun c36 => ?_) (fun c36 => ?_)
          · have r : oI (nr (σ.2 1) x y (k + 1)) = oI (nr (σ.2 1) x y k) := by rw [nr, hb]; dsimp only; rw [if_neg (Int32.not_lt.mpr c36)]
            exact J _ h hm r.symm
          · have r : oI (nr (σ.2 1) x y (k + 1)) = nI k := by rw [nr, hb]; dsimp only; rw [if_pos (Int32.not_le.mp c36)]; rfl
            refine a_iload cx dX3_nearestTo_39 rfl ?_
            refine a_istore_n cx dX3_nearestTo_41 (Nat.le_of_ble_eq_true rfl) rfl ?_
            exact J _ h hm r.symm
  exact loop (nH (σ.2 1) + 1 - 0) 0 h (by omega) (by omega) hm
abbrev rm_X3_nearestOf : Room := { frames := 3, cells := 0, slots := 0, locals := 67 }
set_option maxHeartbeats 4000000 in
theorem k3_nearestOf {l : Launch} {g : GP} {ad : Nat → Nat} {σ : MS} (htr : l.stackTraces = false) {i : Nat} (hi : i < 18) (hw : WS (σ.2 1)) : MKi l g ad yX3_nearestOf cX3_nearestOf 2 (some .int) rm_X3_nearestOf σ [.int (nI i)] (oI (nearO (σ.2 1) i)) (σ) := by
  refine MK.of (by decide +kernel) htr (Nat.le_of_ble_eq_true rfl) (L0 := [some (.ref (ad 0)), some (.int (nI i))]) rfl ?_
  intro M h0 h cx _ hq hm
  refine a_aload_n cx dX3_nearestOf_0 rfl ?_
  refine a_aload_n cx dX3_nearestOf_1 rfl ?_
  refine a_get cx fl_X3_7.g dX3_nearestOf_2 hm.o rfl ?_
  refine a_bipush cx (v := 9) dX3_nearestOf_5 (by decide) ?_
  refine a_iload_n cx dX3_nearestOf_7 rfl ?_
  refine a_iadd cx dX3_nearestOf_8 ?_
  refine a_iald cx dX3_nearestOf_9 hm.a1 (ix0 _) (by omega) (by decide) ?_
  refine a_aload_n cx dX3_nearestOf_10 rfl ?_
  refine a_get cx fl_X3_7.g dX3_nearestOf_11 hm.o rfl ?_
  refine a_bipush cx (v := 27) dX3_nearestOf_14 (by decide) ?_
  refine a_iload_n cx dX3_nearestOf_16 rfl ?_
  refine a_iadd cx dX3_nearestOf_17 ?_
  refine a_iald cx dX3_nearestOf_18 hm.a1 (ix1 _) (by omega) (by decide) ?_
  refine m_calli cx (k3_nearestTo cx.htr hw) (lw_V q2074 q2076 qs30 q87 q2077) dn_X3_nearestTo (RN.of rfl rfl rfl rfl) rfl hm rfl rfl (Nat.le_of_ble_eq_true rfl) dX3_nearestOf_19 (Nat.zero_le _) (Nat.zero_le _) (fun h hm => ?_)
  exact a_iret cx hq dX3_nearestOf_22 ⟨_, ⟨rfl, rfl⟩, hm⟩ (Nat.zero_le _) (Nat.zero_le _)
abbrev rm_X3_flock : Room := { frames := 0, cells := 0, slots := 0, locals := 0 }
set_option maxHeartbeats 4000000 in
theorem k3_flock {l : Launch} {g : GP} {ad : Nat → Nat} {σ : MS} (htr : l.stackTraces = false) {u : Int32} (hw : WS (σ.2 1)) : MKi l g ad yX3_flock cX3_flock 4 (some .int) rm_X3_flock σ [.int u] (nI (cnt (σ.2 1) u (nS (σ.2 1)))) (σ) := by
  refine MK.of (by decide +kernel) htr (Nat.le_of_ble_eq_true rfl) (L0 := [some (.ref (ad 0)), some (.int u), none, none]) rfl ?_
  intro M h0 h cx _ hq hm
  obtain ⟨hw1, hw2, hw3, hw4⟩ := hw
  refine a_iconst cx (v := 0) dX3_flock_0 (by decide) ?_
  refine a_istore_n cx dX3_flock_1 (Nat.le_of_ble_eq_true rfl) rfl ?_
  refine a_iconst cx (v := 0) dX3_flock_2 (by decide) ?_
  refine a_istore_n cx dX3_flock_3 (Nat.le_of_ble_eq_true rfl) rfl ?_
  have loop : ∀ (j k : Nat) (h : AH), k ≤ nS (σ.2 1) → nS (σ.2 1) < k + j → MSt g ad h0 (σ) h → AW g M 0 0 4 [some (.ref (ad 0)), some (.int u), some (.int (nI (cnt (σ.2 1) u k))), some (.int (nI k))] [] h := by
    intro j
    induction j with
    | zero => intro k h h1 h2; omega
    | succ j ih =>
      intro k h h1 h2 hm
      refine a_iload_n cx dX3_flock_4 rfl ?_
      refine a_aload_n cx dX3_flock_5 rfl ?_
      refine a_get cx fl_X3_7.g dX3_flock_6 hm.o rfl ?_
      refine a_iconst cx (v := 0) dX3_flock_9 (by decide) ?_
      refine a_iald cx dX3_flock_10 hm.a1 (show (0 : Int32) = nI 0 from rfl) (by omega) (by decide) ?_
      refine AW.topi hw1 ?_
      refine a_icmp_ge cx (tgt := 41) dX3_flock_11 (by decide) (fun c11 => ?_) (fun c11 => ?_)
      · have d11 := le_nI c11 (by omega) (by omega)
        have e11 : k = nS (σ.2 1) := by omega
        subst e11
        refine a_iload_n cx dX3_flock_41 rfl ?_
        exact a_iret cx hq dX3_flock_42 ⟨_, ⟨rfl, rfl⟩, hm⟩ (Nat.zero_le _) (Nat.zero_le _)
      · have d11 := nle_nI c11 (by omega) (by omega)
        refine a_iload_n cx dX3_flock_14 rfl ?_
        refine a_aload_n cx dX3_flock_15 rfl ?_
        refine a_get cx fl_X3_7.g dX3_flock_16 hm.o rfl ?_
        refine a_bipush cx (v := 63) dX3_flock_19 (by decide) ?_
        refine a_iload_n cx dX3_flock_21 rfl ?_
        refine a_iadd cx dX3_flock_22 ?_
        refine a_iald cx dX3_flock_23 hm.a1 (ix3 _) (by omega) (by decide) ?_
        refine a_iload_n cx dX3_flock_24 rfl ?_
        refine a_icmp_ne cx (tgt := 32) dX3_flock_25 (by decide) (fun c25 => ?_) (fun c25 => ?_)
        · have r : nI (cnt (σ.2 1) u k) + 0 = nI (cnt (σ.2 1) u (k + 1)) := by rw [cnt, if_neg c25]; exact nI_add _ 0
          refine a_iconst cx (v := 0) dX3_flock_32 (by decide) ?_
          refine a_iadd cx dX3_flock_33 ?_
          refine AW.topi r ?_
          refine a_istore_n cx dX3_flock_34 (Nat.le_of_ble_eq_true rfl) rfl ?_
          refine a_iincN cx dX3_flock_35 rfl (Nat.le_of_ble_eq_true rfl) rfl ?_
          refine a_goto cx (tgt := 4) dX3_flock_38 (by decide) ?_
          exact ih (k + 1) h (by omega) (by omega) hm
        · have r : nI (cnt (σ.2 1) u k) + 1 = nI (cnt (σ.2 1) u (k + 1)) := by rw [cnt, if_pos c25]; exact nI_add _ 1
          refine a_iconst cx (v := 1) dX3_flock_28 (by decide) ?_
          refine a_goto cx (tgt := 33) dX3_flock_29 (by decide) ?_
          refine a_iadd cx dX3_flock_33 ?_
          refine AW.topi r ?_
          refine a_istore_n cx dX3_flock_34 (Nat.le_of_ble_eq_true rfl) rfl ?_
          refine a_iincN cx dX3_flock_35 rfl (Nat.le_of_ble_eq_true rfl) rfl ?_
          refine a_goto cx (tgt := 4) dX3_flock_38 (by decide) ?_
          exact ih (k + 1) h (by omega) (by omega) hm
  exact loop (nS (σ.2 1) + 1 - 0) 0 h (by omega) (by omega) hm
abbrev rm_X3_weights : Room := { frames := 0, cells := 0, slots := 0, locals := 0 }
set_option maxHeartbeats 4000000 in
theorem k3_weights {l : Launch} {g : GP} {ad : Nat → Nat} {σ : MS} (htr : l.stackTraces = false) {u : Int32} (hw : WS (σ.2 1)) : MKi l g ad yX3_weights cX3_weights 4 (some .int) rm_X3_weights σ [.int u] (wt (σ.2 1) u (nS (σ.2 1))) (σ) := by
  refine MK.of (by decide +kernel) htr (Nat.le_of_ble_eq_true rfl) (L0 := [some (.ref (ad 0)), some (.int u), none, none]) rfl ?_
  intro M h0 h cx _ hq hm
  obtain ⟨hw1, hw2, hw3, hw4⟩ := hw
  refine a_iconst cx (v := 0) dX3_weights_0 (by decide) ?_
  refine a_istore_n cx dX3_weights_1 (Nat.le_of_ble_eq_true rfl) rfl ?_
  refine a_iconst cx (v := 0) dX3_weights_2 (by decide) ?_
  refine a_istore_n cx dX3_weights_3 (Nat.le_of_ble_eq_true rfl) rfl ?_
  have loop : ∀ (j k : Nat) (h : AH), k ≤ nS (σ.2 1) → nS (σ.2 1) < k + j → MSt g ad h0 (σ) h → AW g M 0 0 4 [some (.ref (ad 0)), some (.int u), some (.int (wt (σ.2 1) u k)), some (.int (nI k))] [] h := by
    intro j
    induction j with
    | zero => intro k h h1 h2; omega
    | succ j ih =>
      intro k h h1 h2 hm
      refine a_iload_n cx dX3_weights_4 rfl ?_
      refine a_aload_n cx dX3_weights_5 rfl ?_
      refine a_get cx fl_X3_7.g dX3_weights_6 hm.o rfl ?_
      refine a_iconst cx (v := 0) dX3_weights_9 (by decide) ?_
      refine a_iald cx dX3_weights_10 hm.a1 (show (0 : Int32) = nI 0 from rfl) (by omega) (by decide) ?_
      refine AW.topi hw1 ?_
      refine a_icmp_ge cx (tgt := 49) dX3_weights_11 (by decide) (fun c11 => ?_) (fun c11 => ?_)
      · have d11 := le_nI c11 (by omega) (by omega)
        have e11 : k = nS (σ.2 1) := by omega
        subst e11
        refine a_iload_n cx dX3_weights_49 rfl ?_
        exact a_iret cx hq dX3_weights_50 ⟨_, ⟨rfl, rfl⟩, hm⟩ (Nat.zero_le _) (Nat.zero_le _)
      · have d11 := nle_nI c11 (by omega) (by omega)
        refine a_iload_n cx dX3_weights_14 rfl ?_
        refine a_aload_n cx dX3_weights_15 rfl ?_
        refine a_get cx fl_X3_7.g dX3_weights_16 hm.o rfl ?_
        refine a_bipush cx (v := 63) dX3_weights_19 (by decide) ?_
        refine a_iload_n cx dX3_weights_21 rfl ?_
        refine a_iadd cx dX3_weights_22 ?_
        refine a_iald cx dX3_weights_23 hm.a1 (ix3 _) (by omega) (by decide) ?_
        refine a_iload_n cx dX3_weights_24 rfl ?_
        refine a_icmp_ne cx (tgt := 40) dX3_weights_25 (by decide) (fun c25 => ?_) (fun c25 => ?_)
        · have r : wt (σ.2 1) u k + 0 = wt (σ.2 1) u (k + 1) := by rw [wt, if_neg c25]
          refine a_iconst cx (v := 0) dX3_weights_40 (by decide) ?_
          refine a_iadd cx dX3_weights_41 ?_
          refine AW.topi r ?_
          refine a_istore_n cx dX3_weights_42 (Nat.le_of_ble_eq_true rfl) rfl ?_
          refine a_iincN cx dX3_weights_43 rfl (Nat.le_of_ble_eq_true rfl) rfl ?_
          refine a_goto cx (tgt := 4) dX3_weights_46 (by decide) ?_
          exact ih (k + 1) h (by omega) (by omega) hm
        · have r : wt (σ.2 1) u k + (σ.2 1) (45 + k) = wt (σ.2 1) u (k + 1) := by rw [wt, if_pos c25]
          refine a_aload_n cx dX3_weights_28 rfl ?_
          refine a_get cx fl_X3_7.g dX3_weights_29 hm.o rfl ?_
          refine a_bipush cx (v := 45) dX3_weights_32 (by decide) ?_
          refine a_iload_n cx dX3_weights_34 rfl ?_
          refine a_iadd cx dX3_weights_35 ?_
          refine a_iald cx dX3_weights_36 hm.a1 (ix2 _) (by omega) (by decide) ?_
          refine a_goto cx (tgt := 41) dX3_weights_37 (by decide) ?_
          refine a_iadd cx dX3_weights_41 ?_
          refine AW.topi r ?_
          refine a_istore_n cx dX3_weights_42 (Nat.le_of_ble_eq_true rfl) rfl ?_
          refine a_iincN cx dX3_weights_43 rfl (Nat.le_of_ble_eq_true rfl) rfl ?_
          refine a_goto cx (tgt := 4) dX3_weights_46 (by decide) ?_
          exact ih (k + 1) h (by omega) (by omega) hm
  exact loop (nS (σ.2 1) + 1 - 0) 0 h (by omega) (by omega) hm
abbrev rm_X3_spreadOf : Room := { frames := 3, cells := 0, slots := 0, locals := 65 }
set_option maxHeartbeats 4000000 in
theorem k3_spreadOf {l : Launch} {g : GP} {ad : Nat → Nat} {σ : MS} (htr : l.stackTraces = false) {i : Nat} (hi : i < 6) (hw : WS (σ.2 1)) : MKi l g ad yX3_spreadOf cX3_spreadOf 4 (some .int) rm_X3_spreadOf σ [.int (nI i)] (spr (σ.2 1) i (nS (σ.2 1))) (σ) := by
  refine MK.of (by decide +kernel) htr (Nat.le_of_ble_eq_true rfl) (L0 := [some (.ref (ad 0)), some (.int (nI i)), none, none]) rfl ?_
  intro M h0 h cx _ hq hm
  obtain ⟨hw1, hw2, hw3, hw4⟩ := hw
  refine a_iconst cx (v := 0) dX3_spreadOf_0 (by decide) ?_
  refine a_istore_n cx dX3_spreadOf_1 (Nat.le_of_ble_eq_true rfl) rfl ?_
  refine a_iconst cx (v := 0) dX3_spreadOf_2 (by decide) ?_
  refine a_istore_n cx dX3_spreadOf_3 (Nat.le_of_ble_eq_true rfl) rfl ?_
  have loop : ∀ (j k : Nat) (h : AH), k ≤ nS (σ.2 1) → nS (σ.2 1) < k + j → MSt g ad h0 (σ) h → AW g M 0 0 4 [some (.ref (ad 0)), some (.int (nI i)), some (.int (spr (σ.2 1) i k)), some (.int (nI k))] [] h := by
    intro j
    induction j with
    | zero => intro k h h1 h2; omega
    | succ j ih =>
      intro k h h1 h2 hm
      refine a_iload_n cx dX3_spreadOf_4 rfl ?_
      refine a_aload_n cx dX3_spreadOf_5 rfl ?_
      refine a_get cx fl_X3_7.g dX3_spreadOf_6 hm.o rfl ?_
      refine a_iconst cx (v := 0) dX3_spreadOf_9 (by decide) ?_
      refine a_iald cx dX3_spreadOf_10 hm.a1 (show (0 : Int32) = nI 0 from rfl) (by omega) (by decide) ?_
      refine AW.topi hw1 ?_
      refine a_icmp_ge cx (tgt := 56) dX3_spreadOf_11 (by decide) (fun c11 => ?_) (fun c11 => ?_)
      · have d11 := le_nI c11 (by omega) (by omega)
        have e11 : k = nS (σ.2 1) := by omega
        subst e11
        refine a_iload_n cx dX3_spreadOf_56 rfl ?_
        exact a_iret cx hq dX3_spreadOf_57 ⟨_, ⟨rfl, rfl⟩, hm⟩ (Nat.zero_le _) (Nat.zero_le _)
      · have d11 := nle_nI c11 (by omega) (by omega)
        refine a_iload_n cx dX3_spreadOf_14 rfl ?_
        refine a_aload_n cx dX3_spreadOf_15 rfl ?_
        refine a_get cx fl_X3_7.g dX3_spreadOf_16 hm.o rfl ?_
        refine a_bipush cx (v := 63) dX3_spreadOf_19 (by decide) ?_
        refine a_iload_n cx dX3_spreadOf_21 rfl ?_
        refine a_iadd cx dX3_spreadOf_22 ?_
        refine a_iald cx dX3_spreadOf_23 hm.a1 (ix3 _) (by omega) (by decide) ?_
        refine a_iload_n cx dX3_spreadOf_24 rfl ?_
        refine a_icmp_ne cx (tgt := 47) dX3_spreadOf_25 (by decide) (fun c25 => ?_) (fun c25 => ?_)
        · have r : spr (σ.2 1) i k + 0 = spr (σ.2 1) i (k + 1) := by rw [spr, if_neg c25]
          refine a_iconst cx (v := 0) dX3_spreadOf_47 (by decide) ?_
          refine a_iadd cx dX3_spreadOf_48 ?_
          refine AW.topi r ?_
          refine a_istore_n cx dX3_spreadOf_49 (Nat.le_of_ble_eq_true rfl) rfl ?_
          refine a_iincN cx dX3_spreadOf_50 rfl (Nat.le_of_ble_eq_true rfl) rfl ?_
          refine a_goto cx (tgt := 4) dX3_spreadOf_53 (by decide) ?_
          exact ih (k + 1) h (by omega) (by omega) hm
        · have r : spr (σ.2 1) i k + (σ.2 1) (45 + k) * far (σ.2 1) k i = spr (σ.2 1) i (k + 1) := by rw [spr, if_pos c25]
          refine a_aload_n cx dX3_spreadOf_28 rfl ?_
          refine a_get cx fl_X3_7.g dX3_spreadOf_29 hm.o rfl ?_
          refine a_bipush cx (v := 45) dX3_spreadOf_32 (by decide) ?_
          refine a_iload_n cx dX3_spreadOf_34 rfl ?_
          refine a_iadd cx dX3_spreadOf_35 ?_
          refine a_iald cx dX3_spreadOf_36 hm.a1 (ix2 _) (by omega) (by decide) ?_
          refine a_aload_n cx dX3_spreadOf_37 rfl ?_
          refine a_iload_n cx dX3_spreadOf_38 rfl ?_
          refine a_iload_n cx dX3_spreadOf_39 rfl ?_
          refine m_calli cx (k3_far cx.htr (by omega) hi) (lw_V q2161 q2163 qs45 q87 q2164) dn_X3_far (RN.of rfl rfl rfl rfl) rfl hm rfl rfl (Nat.le_of_ble_eq_true rfl) dX3_spreadOf_40 (Nat.zero_le _) (Nat.zero_le _) (fun h hm => ?_)
          refine a_imul cx dX3_spreadOf_43 ?_
          refine a_goto cx (tgt := 48) dX3_spreadOf_44 (by decide) ?_
          refine a_iadd cx dX3_spreadOf_48 ?_
          refine AW.topi r ?_
          refine a_istore_n cx dX3_spreadOf_49 (Nat.le_of_ble_eq_true rfl) rfl ?_
          refine a_iincN cx dX3_spreadOf_50 rfl (Nat.le_of_ble_eq_true rfl) rfl ?_
          refine a_goto cx (tgt := 4) dX3_spreadOf_53 (by decide) ?_
          exact ih (k + 1) h (by omega) (by omega) hm
  exact loop (nS (σ.2 1) + 1 - 0) 0 h (by omega) (by omega) hm
abbrev rm_X3_spreads : Room := { frames := 4, cells := 0, slots := 0, locals := 88 }
set_option maxHeartbeats 4000000 in
theorem k3_spreads {l : Launch} {g : GP} {ad : Nat → Nat} {σ : MS} (htr : l.stackTraces = false) (hw : WS (σ.2 1)) : MKi l g ad yX3_spreads cX3_spreads 3 (some .int) rm_X3_spreads σ [] (sprs (σ.2 1) (nH (σ.2 1))) (σ) := by
  refine MK.of (by decide +kernel) htr (Nat.le_of_ble_eq_true rfl) (L0 := [some (.ref (ad 0)), none, none]) rfl ?_
  intro M h0 h cx _ hq hm
  obtain ⟨hw1, hw2, hw3, hw4⟩ := id hw
  refine a_iconst cx (v := 0) dX3_spreads_0 (by decide) ?_
  refine a_istore_n cx dX3_spreads_1 (Nat.le_of_ble_eq_true rfl) rfl ?_
  refine a_iconst cx (v := 0) dX3_spreads_2 (by decide) ?_
  refine a_istore_n cx dX3_spreads_3 (Nat.le_of_ble_eq_true rfl) rfl ?_
  have loop : ∀ (j k : Nat) (h : AH), k ≤ nH (σ.2 1) → nH (σ.2 1) < k + j → MSt g ad h0 (σ) h → AW g M 0 0 4 [some (.ref (ad 0)), some (.int (sprs (σ.2 1) k)), some (.int (nI k))] [] h := by
    intro j
    induction j with
    | zero => intro k h h1 h2; omega
    | succ j ih =>
      intro k h h1 h2 hm
      refine a_iload_n cx dX3_spreads_4 rfl ?_
      refine a_aload_n cx dX3_spreads_5 rfl ?_
      refine a_get cx fl_X3_7.g dX3_spreads_6 hm.o rfl ?_
      refine a_iconst cx (v := 1) dX3_spreads_9 (by decide) ?_
      refine a_iald cx dX3_spreads_10 hm.a1 (show (1 : Int32) = nI 1 from rfl) (by omega) (by decide) ?_
      refine AW.topi hw3 ?_
      refine a_icmp_ge cx (tgt := 28) dX3_spreads_11 (by decide) (fun c11 => ?_) (fun c11 => ?_)
      · have d11 := le_nI c11 (by omega) (by omega)
        have e11 : k = nH (σ.2 1) := by omega
        subst e11
        refine a_iload_n cx dX3_spreads_28 rfl ?_
        exact a_iret cx hq dX3_spreads_29 ⟨_, ⟨rfl, rfl⟩, hm⟩ (Nat.zero_le _) (Nat.zero_le _)
      · have d11 := nle_nI c11 (by omega) (by omega)
        refine a_iload_n cx dX3_spreads_14 rfl ?_
        refine a_aload_n cx dX3_spreads_15 rfl ?_
        refine a_iload_n cx dX3_spreads_16 rfl ?_
        refine m_calli cx (k3_spreadOf cx.htr (by omega) hw) (lw_V q2181 q2183 qs49 q87 q2184) dn_X3_spreadOf (RN.of rfl rfl rfl rfl) rfl hm rfl rfl (Nat.le_of_ble_eq_true rfl) dX3_spreads_17 (Nat.zero_le _) (Nat.zero_le _) (fun h hm => ?_)
        refine a_iadd cx dX3_spreads_20 ?_
        refine a_istore_n cx dX3_spreads_21 (Nat.le_of_ble_eq_true rfl) rfl ?_
        refine a_iincN cx dX3_spreads_22 rfl (Nat.le_of_ble_eq_true rfl) rfl ?_
        refine a_goto cx (tgt := 4) dX3_spreads_25 (by decide) ?_
        exact ih (k + 1) h (by omega) (by omega) hm
  exact loop (nH (σ.2 1) + 1 - 0) 0 h (by omega) (by omega) hm
abbrev rm_X3_isStray : Room := { frames := 4, cells := 0, slots := 0, locals := 88 }
set_option maxHeartbeats 4000000 in
theorem k3_isStray {l : Launch} {g : GP} {ad : Nat → Nat} {σ : MS} (htr : l.stackTraces = false) {i : Nat} (hi : i < 18) (hw : WS (σ.2 1)) (hO : isO ((σ.2 1) (63 + i)) (nH (σ.2 1))) : MKi l g ad yX3_isStray cX3_isStray 3 (some .boolean) rm_X3_isStray σ [.int (nI i)] (bI (stray (σ.2 1) i)) (σ) := by
  refine MK.of (by decide +kernel) htr (Nat.le_of_ble_eq_true rfl) (L0 := [some (.ref (ad 0)), some (.int (nI i)), none]) rfl ?_
  intro M h0 h cx _ hq hm
  obtain ⟨hw1, hw2, hw3, hw4⟩ := id hw
  refine a_aload_n cx dX3_isStray_0 rfl ?_
  refine a_get cx fl_X3_7.g dX3_isStray_1 hm.o rfl ?_
  refine a_iconst cx (v := 1) dX3_isStray_4 (by decide) ?_
  refine a_iald cx dX3_isStray_5 hm.a1 (show (1 : Int32) = nI 1 from rfl) (by omega) (by decide) ?_
  refine AW.topi hw3 ?_
  refine a_if_ne cx (tgt := 11) dX3_isStray_6 (by decide) (fun c6 => ?_) (fun c6 => ?_)
  · have hh : 0 < nH (σ.2 1) := Nat.pos_of_ne_zero (fun q => c6 (by rw [q]; rfl))
    obtain ⟨b, hb⟩ : ∃ b, nearO (σ.2 1) i = some b := by
      cases hq : nearO (σ.2 1) i with
      | none => have := nr_none.mp hq; omega
      | some b => exact ⟨b, rfl⟩
    have hbh : b < nH (σ.2 1) := nr_lt hb
    have hst : stray (σ.2 1) i = ((σ.2 1) (63 + i) == -1 || decide (far (σ.2 1) i b < far (σ.2 1) i (oN ((σ.2 1) (63 + i))))) := by unfold stray; rw [hb]
    refine a_aload_n cx dX3_isStray_11 rfl ?_
    refine a_get cx fl_X3_7.g dX3_isStray_12 hm.o rfl ?_
    refine a_bipush cx (v := 63) dX3_isStray_15 (by decide) ?_
    refine a_iload_n cx dX3_isStray_17 rfl ?_
    refine a_iadd cx dX3_isStray_18 ?_
    refine a_iald cx dX3_isStray_19 hm.a1 (ix3 _) (by omega) (by decide) ?_
    refine a_istore_n cx dX3_isStray_20 (Nat.le_of_ble_eq_true rfl) rfl ?_
    refine a_iload_n cx dX3_isStray_21 rfl ?_
    refine a_iconst cx (v := -1) dX3_isStray_22 (by decide) ?_
    refine a_icmp_eq cx (tgt := 45) dX3_isStray_23 (by decide) (fun c23 => ?_) (fun c23 => ?_)
    · have r : bI (stray (σ.2 1) i) = 1 := bI_t (by rw [hst]; simp [c23])
      refine a_iconst cx (v := 1) dX3_isStray_45 (by decide) ?_
      refine a_goto cx (tgt := 50) dX3_isStray_46 (by decide) ?_
      exact a_zret cx hq dX3_isStray_50 rfl ⟨_, ⟨by rw [r], rfl⟩, hm⟩ (Nat.zero_le _) (Nat.zero_le _)
    · obtain ⟨j, hj, ej⟩ := hO.ix c23
      refine a_aload_n cx dX3_isStray_26 rfl ?_
      refine a_iload_n cx dX3_isStray_27 rfl ?_
      refine a_aload_n cx dX3_isStray_28 rfl ?_
      refine a_iload_n cx dX3_isStray_29 rfl ?_
      refine m_calli cx (k3_nearestOf cx.htr hi hw) (lw_V q2165 q2167 qs46 q87 q2168) dn_X3_nearestOf (RN.of rfl rfl rfl rfl) rfl hm rfl rfl (Nat.le_of_ble_eq_true rfl) dX3_isStray_30 (Nat.zero_le _) (Nat.zero_le _) (fun h hm => ?_)
      refine AW.topi (show oI (nearO (σ.2 1) i) = nI b by rw [hb]; rfl) ?_
      refine m_calli cx (k3_far cx.htr hi (by omega)) (lw_V q2161 q2163 qs45 q87 q2164) dn_X3_far (RN.of rfl rfl rfl rfl) rfl hm rfl rfl (Nat.le_of_ble_eq_true rfl) dX3_isStray_33 (Nat.zero_le _) (Nat.zero_le _) (fun h hm => ?_)
      refine a_aload_n cx dX3_isStray_36 rfl ?_
      refine a_iload_n cx dX3_isStray_37 rfl ?_
      refine a_iload_n cx dX3_isStray_38 rfl ?_
      refine AW.topi ej ?_
      refine m_calli cx (k3_far cx.htr hi (by omega)) (lw_V q2161 q2163 qs45 q87 q2164) dn_X3_far (RN.of rfl rfl rfl rfl) rfl hm rfl rfl (Nat.le_of_ble_eq_true rfl) dX3_isStray_39 (Nat.zero_le _) (Nat.zero_le _) (fun h hm => ?_)
      refine a_icmp_ge cx (tgt := 49) dX3_isStray_42 (by decide) (fun c42 => ?_) (fun c42 => ?_)
      · have r : bI (stray (σ.2 1) i) = 0 := bI_f (by rw [hst, ej, oN_nI (by omega)]; simp [ne_m1 (show j < 2 ^ 31 by omega), Int32.not_lt.mpr c42])
        refine a_iconst cx (v := 0) dX3_isStray_49 (by decide) ?_
        exact a_zret cx hq dX3_isStray_50 rfl ⟨_, ⟨by rw [r], rfl⟩, hm⟩ (Nat.zero_le _) (Nat.zero_le _)
      · have r : bI (stray (σ.2 1) i) = 1 := bI_t (by rw [hst, ej, oN_nI (by omega)]; simp [Int32.not_le.mp c42])
        refine a_iconst cx (v := 1) dX3_isStray_45 (by decide) ?_
        refine a_goto cx (tgt := 50) dX3_isStray_46 (by decide) ?_
        exact a_zret cx hq dX3_isStray_50 rfl ⟨_, ⟨by rw [r], rfl⟩, hm⟩ (Nat.zero_le _) (Nat.zero_le _)
  · have e0 : nH (σ.2 1) = 0 := nI_inj (by omega) (by decide) c6
    have hnn : nearO (σ.2 1) i = none := nr_none.mpr e0
    have r : bI (stray (σ.2 1) i) = 0 := by unfold stray; rw [hnn]; rfl
    refine a_iconst cx (v := 0) dX3_isStray_9 (by decide) ?_
    exact a_zret cx hq dX3_isStray_10 rfl ⟨_, ⟨by rw [r], rfl⟩, hm⟩ (Nat.zero_le _) (Nat.zero_le _)
abbrev rm_X3_strayMany : Room := { frames := 5, cells := 0, slots := 0, locals := 110 }
set_option maxHeartbeats 4000000 in
theorem k3_strayMany {l : Launch} {g : GP} {ad : Nat → Nat} {σ : MS} (htr : l.stackTraces = false) (hw : WS (σ.2 1)) (hO : ∀ k, k < nS (σ.2 1) → isO ((σ.2 1) (63 + k)) (nH (σ.2 1))) : MKi l g ad yX3_strayMany cX3_strayMany 3 (some .int) rm_X3_strayMany σ [] (nI (strm (σ.2 1) (nS (σ.2 1)))) (σ) := by
  refine MK.of (by decide +kernel) htr (Nat.le_of_ble_eq_true rfl) (L0 := [some (.ref (ad 0)), none, none]) rfl ?_
  intro M h0 h cx _ hq hm
  obtain ⟨hw1, hw2, hw3, hw4⟩ := id hw
  refine a_iconst cx (v := 0) dX3_strayMany_0 (by decide) ?_
  refine a_istore_n cx dX3_strayMany_1 (Nat.le_of_ble_eq_true rfl) rfl ?_
  refine a_iconst cx (v := 0) dX3_strayMany_2 (by decide) ?_
  refine a_istore_n cx dX3_strayMany_3 (Nat.le_of_ble_eq_true rfl) rfl ?_
  have loop : ∀ (j k : Nat) (h : AH), k ≤ nS (σ.2 1) → nS (σ.2 1) < k + j → MSt g ad h0 (σ) h → AW g M 0 0 4 [some (.ref (ad 0)), some (.int (nI (strm (σ.2 1) k))), some (.int (nI k))] [] h := by
    intro j
    induction j with
    | zero => intro k h h1 h2; omega
    | succ j ih =>
      intro k h h1 h2 hm
      refine a_iload_n cx dX3_strayMany_4 rfl ?_
      refine a_aload_n cx dX3_strayMany_5 rfl ?_
      refine a_get cx fl_X3_7.g dX3_strayMany_6 hm.o rfl ?_
      refine a_iconst cx (v := 0) dX3_strayMany_9 (by decide) ?_
      refine a_iald cx dX3_strayMany_10 hm.a1 (show (0 : Int32) = nI 0 from rfl) (by omega) (by decide) ?_
      refine AW.topi hw1 ?_
      refine a_icmp_ge cx (tgt := 36) dX3_strayMany_11 (by decide) (fun c11 => ?_) (fun c11 => ?_)
      · have d11 := le_nI c11 (by omega) (by omega)
        have e11 : k = nS (σ.2 1) := by omega
        subst e11
        refine a_iload_n cx dX3_strayMany_36 rfl ?_
        exact a_iret cx hq dX3_strayMany_37 ⟨_, ⟨rfl, rfl⟩, hm⟩ (Nat.zero_le _) (Nat.zero_le _)
      · have d11 := nle_nI c11 (by omega) (by omega)
        refine a_iload_n cx dX3_strayMany_14 rfl ?_
        refine a_aload_n cx dX3_strayMany_15 rfl ?_
        refine a_iload_n cx dX3_strayMany_16 rfl ?_
        refine m_calli cx (k3_isStray cx.htr (by omega) hw (hO k (by omega))) (lw_V q2169 q2171 qs47 q87 q2172) dn_X3_isStray (RN.of rfl rfl rfl rfl) rfl hm rfl rfl (Nat.le_of_ble_eq_true rfl) dX3_strayMany_17 (Nat.zero_le _) (Nat.zero_le _) (fun h hm => ?_)
        refine a_if_eq cx (tgt := 27) dX3_strayMany_20 (by decide) (fun c20 => ?_) (fun c20 => ?_)
        · have r : nI (strm (σ.2 1) k) + 0 = nI (strm (σ.2 1) (k + 1)) := by rw [strm, if_neg (by rw [(bI_0 _).mp c20]; decide)]; exact nI_add _ 0
          refine a_iconst cx (v := 0) dX3_strayMany_27 (by decide) ?_
          refine a_iadd cx dX3_strayMany_28 ?_
          refine AW.topi r ?_
          refine a_istore_n cx dX3_strayMany_29 (Nat.le_of_ble_eq_true rfl) rfl ?_
          refine a_iincN cx dX3_strayMany_30 rfl (Nat.le_of_ble_eq_true rfl) rfl ?_
          refine a_goto cx (tgt := 4) dX3_strayMany_33 (by decide) ?_
          exact ih (k + 1) h (by omega) (by omega) hm
        · have r : nI (strm (σ.2 1) k) + 1 = nI (strm (σ.2 1) (k + 1)) := by rw [strm, if_pos (bI_n0 c20)]; exact nI_add _ 1
          refine a_iconst cx (v := 1) dX3_strayMany_23 (by decide) ?_
          refine a_goto cx (tgt := 28) dX3_strayMany_24 (by decide) ?_
          refine a_iadd cx dX3_strayMany_28 ?_
          refine AW.topi r ?_
          refine a_istore_n cx dX3_strayMany_29 (Nat.le_of_ble_eq_true rfl) rfl ?_
          refine a_iincN cx dX3_strayMany_30 rfl (Nat.le_of_ble_eq_true rfl) rfl ?_
          refine a_goto cx (tgt := 4) dX3_strayMany_33 (by decide) ?_
          exact ih (k + 1) h (by omega) (by omega) hm
  exact loop (nS (σ.2 1) + 1 - 0) 0 h (by omega) (by omega) hm
