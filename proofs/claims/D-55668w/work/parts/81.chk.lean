/-! CHECKS AND REFUSALS -/
set_option maxRecDepth 100000
theorem lt64 (x y : Int32) : x.toInt64 < y.toInt64 ↔ x < y := by
  rw [Int64.lt_iff_toInt_lt, Int32.lt_iff_toInt_lt, Int32.toInt_toInt64, Int32.toInt_toInt64]
theorem inR_f {x y z : Int32} (h : x < y ∨ z < x) : inR x y z = false := by
  cases e : inR x y z with
  | false => rfl
  | true =>
    obtain ⟨h1, h2⟩ := (inR_iff x y z).mp e
    rcases h with h | h
    · exact absurd h (Int32.not_lt.mpr h1)
    · exact absurd h (Int32.not_lt.mpr h2)
theorem inR_t {x y z : Int32} (h1 : ¬ x < y) (h2 : ¬ z < x) : inR x y z = true := (inR_iff x y z).mpr ⟨Int32.not_lt.mp h1, Int32.not_lt.mp h2⟩
/-- thrown by new E(), nothing else changed -/
abbrev xN (cls : String) (P : Prop) (h : AH) : String → Nat → AH → Prop := fun E _ h' => E = cls ∧ h' = h ∧ P
abbrev reE (r d : Int32) : va_E := eO 6 [.null, .null, .null, .null, .null, .int 0, .int r, .int d]
abbrev syE (p : Int32) : va_E := eO 11 [.null, .null, .null, .null, .null, .int 0, .int p]
abbrev rm_X1_inRange : Room := { frames := 0, cells := 0, slots := 0, locals := 0 }
set_option maxHeartbeats 4000000 in
theorem f1_inRange {lx : Launch} {g : GP} {h : AH} (htr : lx.stackTraces = false) {x y z : Int32} : KT lx g yX1_inRange (ws_ yX1_inRange cX1_inRange 6 (some .boolean)) rm_X1_inRange 0 0 [.long x.toInt64, .long y.toInt64, .long z.toInt64] h (isP (.int (bI (inR x y z))) h) (noX) := by
  refine KT.of (by decide +kernel) htr (Nat.le_of_ble_eq_true rfl) (L0 := [some (.long x.toInt64), none, some (.long y.toInt64), none, some (.long z.toInt64), none]) rfl ?_
  intro M cx hl9 hq hin hnx
  refine a_lload_n cx dX1_inRange_0 rfl ?_
  refine a_lload_n cx dX1_inRange_1 rfl ?_
  refine a_lcmp cx dX1_inRange_2 ?_
  refine a_if_lt cx (tgt := 17) dX1_inRange_3 (by decide) (fun c3 => ?_) (fun c3 => ?_)
  · have r : bI (inR x y z) = 0 := bI_f (inR_f (Or.inl ((lt64 _ _).mp ((lg_cmp_lt _ _).mp c3))))
    refine a_iconst cx (v := 0) dX1_inRange_17 (by decide) ?_
    exact a_zret cx hq dX1_inRange_18 rfl ⟨by rw [r], rfl⟩ (Nat.le_of_ble_eq_true rfl) (Nat.le_of_ble_eq_true rfl)
  · refine a_lload_n cx dX1_inRange_6 rfl ?_
    refine a_lload cx dX1_inRange_7 rfl ?_
    refine a_lcmp cx dX1_inRange_9 ?_
    refine a_if_gt cx (tgt := 17) dX1_inRange_10 (by decide) (fun c10 => ?_) (fun c10 => ?_)
    · have r : bI (inR x y z) = 0 := bI_f (inR_f (Or.inr ((lt64 _ _).mp ((lg_cmp_gt _ _).mp c10))))
      refine a_iconst cx (v := 0) dX1_inRange_17 (by decide) ?_
      exact a_zret cx hq dX1_inRange_18 rfl ⟨by rw [r], rfl⟩ (Nat.le_of_ble_eq_true rfl) (Nat.le_of_ble_eq_true rfl)
    · have r : bI (inR x y z) = 1 := bI_t (inR_t (fun q => c3 ((lg_cmp_lt _ _).mpr ((lt64 _ _).mpr q))) (fun q => c10 ((lg_cmp_gt _ _).mpr ((lt64 _ _).mpr q))))
      refine a_iconst cx (v := 1) dX1_inRange_13 (by decide) ?_
      refine a_goto cx (tgt := 18) dX1_inRange_14 (by decide) ?_
      exact a_zret cx hq dX1_inRange_18 rfl ⟨by rw [r], rfl⟩ (Nat.le_of_ble_eq_true rfl) (Nat.le_of_ble_eq_true rfl)
abbrev rm_X1_checkArgument : Room := { frames := 6, cells := 1, slots := 6, locals := 100 }
set_option maxHeartbeats 4000000 in
theorem f1_checkArgument {lx : Launch} {g : GP} {h : AH} (htr : lx.stackTraces = false) {x : Int32} : KT lx g yX1_checkArgument (ws_ yX1_checkArgument cX1_checkArgument 1 none) rm_X1_checkArgument 1 6 [.int x] h (fun v h' => v = none ∧ h' = h ∧ ¬ x = 0) (xN "java/lang/IllegalArgumentException" (x = 0) h) := by
  refine KT.of (by decide +kernel) htr (Nat.le_of_ble_eq_true rfl) (L0 := [some (.int x)]) rfl ?_
  intro M cx hl9 hq hin hnx
  refine a_iload_n cx dX1_checkArgument_0 rfl ?_
  refine a_if_ne cx (tgt := 12) dX1_checkArgument_1 (by decide) (fun c1 => ?_) (fun c1 => ?_)
  · exact a_vret cx hq dX1_checkArgument_12 ⟨rfl, rfl, c1⟩ (Nat.le_of_ble_eq_true rfl) (Nat.le_of_ble_eq_true rfl)
  · exact t_IAE cx hq dX1_checkArgument_4 dX1_checkArgument_7 dX1_checkArgument_8 dX1_checkArgument_11 (fun x hx => (hnx x hx).elim) (by decide) (Nat.le_of_ble_eq_true rfl) (Nat.le_of_ble_eq_true rfl) (Nat.le_of_ble_eq_true rfl) (fun q => ⟨rfl, rfl, c1⟩) (Nat.le_of_ble_eq_true rfl) (Nat.le_of_ble_eq_true rfl)
abbrev rm_X1_checkArgumentk : Room := { frames := 0, cells := 0, slots := 0, locals := 0 }
set_option maxHeartbeats 4000000 in
theorem f1_checkArgumentk {lx : Launch} {g : GP} {h : AH} (htr : lx.stackTraces = false) {x : Int32} (hx : ¬ x = 0) : KT lx g yX1_checkArgument (ws_ yX1_checkArgument cX1_checkArgument 1 none) rm_X1_checkArgumentk 0 0 [.int x] h (fun v h' => v = none ∧ h' = h) (noX) := by
  refine KT.of (by decide +kernel) htr (Nat.le_of_ble_eq_true rfl) (L0 := [some (.int x)]) rfl ?_
  intro M cx hl9 hq hin hnx
  refine a_iload_n cx dX1_checkArgument_0 rfl ?_
  refine a_if_ne cx (tgt := 12) dX1_checkArgument_1 (by decide) (fun c1 => ?_) (fun c1 => absurd c1 hx)
  exact a_vret cx hq dX1_checkArgument_12 ⟨rfl, rfl⟩ (Nat.le_of_ble_eq_true rfl) (Nat.le_of_ble_eq_true rfl)
abbrev rm_X1_checkIndex : Room := { frames := 6, cells := 1, slots := 6, locals := 100 }
set_option maxHeartbeats 4000000 in
theorem f1_checkIndex {lx : Launch} {g : GP} {h : AH} (htr : lx.stackTraces = false) {x : Int32} : KT lx g yX1_checkIndex (ws_ yX1_checkIndex cX1_checkIndex 1 none) rm_X1_checkIndex 1 6 [.int x] h (fun v h' => v = none ∧ h' = h ∧ ¬ x = 0) (xN "java/lang/IndexOutOfBoundsException" (x = 0) h) := by
  refine KT.of (by decide +kernel) htr (Nat.le_of_ble_eq_true rfl) (L0 := [some (.int x)]) rfl ?_
  intro M cx hl9 hq hin hnx
  refine a_iload_n cx dX1_checkIndex_0 rfl ?_
  refine a_if_ne cx (tgt := 12) dX1_checkIndex_1 (by decide) (fun c1 => ?_) (fun c1 => ?_)
  · exact a_vret cx hq dX1_checkIndex_12 ⟨rfl, rfl, c1⟩ (Nat.le_of_ble_eq_true rfl) (Nat.le_of_ble_eq_true rfl)
  · exact t_IOB cx hq dX1_checkIndex_4 dX1_checkIndex_7 dX1_checkIndex_8 dX1_checkIndex_11 (fun x hx => (hnx x hx).elim) (by decide) (Nat.le_of_ble_eq_true rfl) (Nat.le_of_ble_eq_true rfl) (Nat.le_of_ble_eq_true rfl) (fun q => ⟨rfl, rfl, c1⟩) (Nat.le_of_ble_eq_true rfl) (Nat.le_of_ble_eq_true rfl)
abbrev rm_X1_checkIndexk : Room := { frames := 0, cells := 0, slots := 0, locals := 0 }
set_option maxHeartbeats 4000000 in
theorem f1_checkIndexk {lx : Launch} {g : GP} {h : AH} (htr : lx.stackTraces = false) {x : Int32} (hx : ¬ x = 0) : KT lx g yX1_checkIndex (ws_ yX1_checkIndex cX1_checkIndex 1 none) rm_X1_checkIndexk 0 0 [.int x] h (fun v h' => v = none ∧ h' = h) (noX) := by
  refine KT.of (by decide +kernel) htr (Nat.le_of_ble_eq_true rfl) (L0 := [some (.int x)]) rfl ?_
  intro M cx hl9 hq hin hnx
  refine a_iload_n cx dX1_checkIndex_0 rfl ?_
  refine a_if_ne cx (tgt := 12) dX1_checkIndex_1 (by decide) (fun c1 => ?_) (fun c1 => absurd c1 hx)
  exact a_vret cx hq dX1_checkIndex_12 ⟨rfl, rfl⟩ (Nat.le_of_ble_eq_true rfl) (Nat.le_of_ble_eq_true rfl)
abbrev rm_X1_checkState : Room := { frames := 6, cells := 1, slots := 6, locals := 100 }
set_option maxHeartbeats 4000000 in
theorem f1_checkState {lx : Launch} {g : GP} {h : AH} (htr : lx.stackTraces = false) {x : Int32} : KT lx g yX1_checkState (ws_ yX1_checkState cX1_checkState 1 none) rm_X1_checkState 1 6 [.int x] h (fun v h' => v = none ∧ h' = h ∧ ¬ x = 0) (xN "java/lang/IllegalStateException" (x = 0) h) := by
  refine KT.of (by decide +kernel) htr (Nat.le_of_ble_eq_true rfl) (L0 := [some (.int x)]) rfl ?_
  intro M cx hl9 hq hin hnx
  refine a_iload_n cx dX1_checkState_0 rfl ?_
  refine a_if_ne cx (tgt := 12) dX1_checkState_1 (by decide) (fun c1 => ?_) (fun c1 => ?_)
  · exact a_vret cx hq dX1_checkState_12 ⟨rfl, rfl, c1⟩ (Nat.le_of_ble_eq_true rfl) (Nat.le_of_ble_eq_true rfl)
  · exact t_ISE cx hq dX1_checkState_4 dX1_checkState_7 dX1_checkState_8 dX1_checkState_11 (fun x hx => (hnx x hx).elim) (by decide) (Nat.le_of_ble_eq_true rfl) (Nat.le_of_ble_eq_true rfl) (Nat.le_of_ble_eq_true rfl) (fun q => ⟨rfl, rfl, c1⟩) (Nat.le_of_ble_eq_true rfl) (Nat.le_of_ble_eq_true rfl)
abbrev rm_X1_checkStatek : Room := { frames := 0, cells := 0, slots := 0, locals := 0 }
set_option maxHeartbeats 4000000 in
theorem f1_checkStatek {lx : Launch} {g : GP} {h : AH} (htr : lx.stackTraces = false) {x : Int32} (hx : ¬ x = 0) : KT lx g yX1_checkState (ws_ yX1_checkState cX1_checkState 1 none) rm_X1_checkStatek 0 0 [.int x] h (fun v h' => v = none ∧ h' = h) (noX) := by
  refine KT.of (by decide +kernel) htr (Nat.le_of_ble_eq_true rfl) (L0 := [some (.int x)]) rfl ?_
  intro M cx hl9 hq hin hnx
  refine a_iload_n cx dX1_checkState_0 rfl ?_
  refine a_if_ne cx (tgt := 12) dX1_checkState_1 (by decide) (fun c1 => ?_) (fun c1 => absurd c1 hx)
  exact a_vret cx hq dX1_checkState_12 ⟨rfl, rfl⟩ (Nat.le_of_ble_eq_true rfl) (Nat.le_of_ble_eq_true rfl)
abbrev rm_X1_checkElement : Room := { frames := 6, cells := 1, slots := 6, locals := 100 }
set_option maxHeartbeats 4000000 in
theorem f1_checkElement {lx : Launch} {g : GP} {h : AH} (htr : lx.stackTraces = false) {x : Int32} : KT lx g yX1_checkElement (ws_ yX1_checkElement cX1_checkElement 1 none) rm_X1_checkElement 1 6 [.int x] h (fun v h' => v = none ∧ h' = h ∧ ¬ x = 0) (xN "java/util/NoSuchElementException" (x = 0) h) := by
  refine KT.of (by decide +kernel) htr (Nat.le_of_ble_eq_true rfl) (L0 := [some (.int x)]) rfl ?_
  intro M cx hl9 hq hin hnx
  refine a_iload_n cx dX1_checkElement_0 rfl ?_
  refine a_if_ne cx (tgt := 12) dX1_checkElement_1 (by decide) (fun c1 => ?_) (fun c1 => ?_)
  · exact a_vret cx hq dX1_checkElement_12 ⟨rfl, rfl, c1⟩ (Nat.le_of_ble_eq_true rfl) (Nat.le_of_ble_eq_true rfl)
  · exact t_NSE cx hq dX1_checkElement_4 dX1_checkElement_7 dX1_checkElement_8 dX1_checkElement_11 (fun x hx => (hnx x hx).elim) (by decide) (Nat.le_of_ble_eq_true rfl) (Nat.le_of_ble_eq_true rfl) (Nat.le_of_ble_eq_true rfl) (fun q => ⟨rfl, rfl, c1⟩) (Nat.le_of_ble_eq_true rfl) (Nat.le_of_ble_eq_true rfl)
abbrev rm_X1_checkElementk : Room := { frames := 0, cells := 0, slots := 0, locals := 0 }
set_option maxHeartbeats 4000000 in
theorem f1_checkElementk {lx : Launch} {g : GP} {h : AH} (htr : lx.stackTraces = false) {x : Int32} (hx : ¬ x = 0) : KT lx g yX1_checkElement (ws_ yX1_checkElement cX1_checkElement 1 none) rm_X1_checkElementk 0 0 [.int x] h (fun v h' => v = none ∧ h' = h) (noX) := by
  refine KT.of (by decide +kernel) htr (Nat.le_of_ble_eq_true rfl) (L0 := [some (.int x)]) rfl ?_
  intro M cx hl9 hq hin hnx
  refine a_iload_n cx dX1_checkElement_0 rfl ?_
  refine a_if_ne cx (tgt := 12) dX1_checkElement_1 (by decide) (fun c1 => ?_) (fun c1 => absurd c1 hx)
  exact a_vret cx hq dX1_checkElement_12 ⟨rfl, rfl⟩ (Nat.le_of_ble_eq_true rfl) (Nat.le_of_ble_eq_true rfl)
abbrev rm_X1_checkNumbers : Room := { frames := 6, cells := 1, slots := 6, locals := 100 }
set_option maxHeartbeats 4000000 in
theorem f1_checkNumbers {lx : Launch} {g : GP} {h : AH} (htr : lx.stackTraces = false) {x : Int32} : KT lx g yX1_checkNumbers (ws_ yX1_checkNumbers cX1_checkNumbers 1 none) rm_X1_checkNumbers 1 6 [.int x] h (fun v h' => v = none ∧ h' = h ∧ ¬ x = 0) (xN "java/lang/ArithmeticException" (x = 0) h) := by
  refine KT.of (by decide +kernel) htr (Nat.le_of_ble_eq_true rfl) (L0 := [some (.int x)]) rfl ?_
  intro M cx hl9 hq hin hnx
  refine a_iload_n cx dX1_checkNumbers_0 rfl ?_
  refine a_if_ne cx (tgt := 12) dX1_checkNumbers_1 (by decide) (fun c1 => ?_) (fun c1 => ?_)
  · exact a_vret cx hq dX1_checkNumbers_12 ⟨rfl, rfl, c1⟩ (Nat.le_of_ble_eq_true rfl) (Nat.le_of_ble_eq_true rfl)
  · exact t_ARE cx hq dX1_checkNumbers_4 dX1_checkNumbers_7 dX1_checkNumbers_8 dX1_checkNumbers_11 (fun x hx => (hnx x hx).elim) (by decide) (Nat.le_of_ble_eq_true rfl) (Nat.le_of_ble_eq_true rfl) (Nat.le_of_ble_eq_true rfl) (fun q => ⟨rfl, rfl, c1⟩) (Nat.le_of_ble_eq_true rfl) (Nat.le_of_ble_eq_true rfl)
abbrev rm_X1_checkNumbersk : Room := { frames := 0, cells := 0, slots := 0, locals := 0 }
set_option maxHeartbeats 4000000 in
theorem f1_checkNumbersk {lx : Launch} {g : GP} {h : AH} (htr : lx.stackTraces = false) {x : Int32} (hx : ¬ x = 0) : KT lx g yX1_checkNumbers (ws_ yX1_checkNumbers cX1_checkNumbers 1 none) rm_X1_checkNumbersk 0 0 [.int x] h (fun v h' => v = none ∧ h' = h) (noX) := by
  refine KT.of (by decide +kernel) htr (Nat.le_of_ble_eq_true rfl) (L0 := [some (.int x)]) rfl ?_
  intro M cx hl9 hq hin hnx
  refine a_iload_n cx dX1_checkNumbers_0 rfl ?_
  refine a_if_ne cx (tgt := 12) dX1_checkNumbers_1 (by decide) (fun c1 => ?_) (fun c1 => absurd c1 hx)
  exact a_vret cx hq dX1_checkNumbers_12 ⟨rfl, rfl⟩ (Nat.le_of_ble_eq_true rfl) (Nat.le_of_ble_eq_true rfl)
abbrev rm_X1_checkPlaces : Room := { frames := 7, cells := 3, slots := 18, locals := 160 }
set_option maxHeartbeats 4000000 in
theorem f1_checkPlaces {lx : Launch} {g : GP} {h : AH} (htr : lx.stackTraces = false) {p : Nat} {f : Nat → Int32} (hp : h p = some (eI (g.2.1 0) 2 f)) : KT lx g yX1_checkPlaces (ws_ yX1_checkPlaces cX1_checkPlaces 5 none) rm_X1_checkPlaces 3 18 [.ref p] h (fun v h' => v = none ∧ h' = h ∧ inP (f 0) = true ∧ inP (f 1) = true) (xN "java/lang/IllegalArgumentException" (¬ (inP (f 0) = true ∧ inP (f 1) = true)) h) := by
  refine KT.of (by decide +kernel) htr (Nat.le_of_ble_eq_true rfl) (L0 := [some (.ref p), none, none, none, none]) rfl ?_
  intro M cx hl9 hq hin hnx
  have hR1 : rm_X1_checkPlaces.cells = 3 := rfl
  have hR2 : rm_X1_checkPlaces.slots = 18 := rfl
  refine a_aload_n cx dX1_checkPlaces_0 rfl ?_
  refine a_astore_n cx dX1_checkPlaces_1 (Nat.le_of_ble_eq_true rfl) rfl ?_
  refine a_aload_n cx dX1_checkPlaces_2 rfl ?_
  refine a_alen0 cx dX1_checkPlaces_3 hp ?_
  refine a_istore_n cx dX1_checkPlaces_4 (Nat.le_of_ble_eq_true rfl) rfl ?_
  refine a_iconst cx (v := 0) dX1_checkPlaces_5 (by decide) ?_
  refine a_istore_n cx dX1_checkPlaces_6 (Nat.le_of_ble_eq_true rfl) rfl ?_
  have loop : ∀ (j k : Nat), k ≤ 2 → 2 < k + j → (∀ i, i < k → inP (f i) = true) → AW g M (1 * k) (6 * k) 7 [some (.ref p), some (.ref p), some (.int (nI 2)), some (.int (nI k)), none] [] h := by
    intro j
    induction j with
    | zero => intro k h1 h2; omega
    | succ j ih =>
      intro k h1 h2 hx0
      refine a_iload_n cx dX1_checkPlaces_7 rfl ?_
      refine a_iload_n cx dX1_checkPlaces_8 rfl ?_
      refine a_icmp_ge cx (tgt := 36) dX1_checkPlaces_9 (by decide) (fun c9 => ?_) (fun c9 => ?_)
      · have d9 := le_nI c9 (by omega) (by omega)
        exact a_vret cx hq dX1_checkPlaces_36 ⟨rfl, rfl, hx0 0 (by omega), hx0 1 (by omega)⟩ (by omega) (by omega)
      · have d9 := nle_nI c9 (by omega) (by omega)
        refine a_aload_n cx dX1_checkPlaces_12 rfl ?_
        refine a_iload_n cx dX1_checkPlaces_13 rfl ?_
        refine a_iald cx dX1_checkPlaces_14 hp rfl (by omega) (by omega) ?_
        refine a_istore cx dX1_checkPlaces_15 (Nat.le_of_ble_eq_true rfl) rfl ?_
        refine a_iload cx dX1_checkPlaces_17 rfl ?_
        refine a_i2l cx dX1_checkPlaces_19 rfl ?_
        refine a_lconst cx (v := 0) dX1_checkPlaces_20 (by decide) ?_
        refine a_ldc2 cx q1157 dX1_checkPlaces_21 ?_
        refine c_Sp cx (f1_inRange (x := f k) (y := 0) (z := 99) cx.htr) (lw_S q1158 q794 q77 q795) dn_X1_inRange (RN.of rfl rfl rfl rfl) rfl rfl (Nat.le_of_ble_eq_true rfl) dX1_checkPlaces_24 (by omega) (by omega) ?_
        refine c_S cx (f1_checkArgument cx.htr) (lw_S q1159 q1160 q77 q1161) dn_X1_checkArgument (RN.of rfl rfl rfl rfl) rfl rfl (Nat.le_of_ble_eq_true rfl) dX1_checkPlaces_27 (by omega) (by omega) (fun v9 h hp9 => ?_) (fun E9 q9 h9 hx9 => AX.out cx hq hnx ⟨hx9.1, hx9.2.1, fun z => by
              have e9 : inP (f k) = false := (bI_0 _).mp hx9.2.2
              have hk2 : k = 0 ∨ k = 1 := by omega
              rcases hk2 with e | e
              · subst e; rw [z.1] at e9; cases e9
              · subst e; rw [z.2] at e9; cases e9⟩ (by omega) (by omega))
        obtain ⟨rfl, rfl, ck27⟩ := hp9
        refine a_iincN cx dX1_checkPlaces_30 rfl (Nat.le_of_ble_eq_true rfl) rfl ?_
        refine a_goto cx (tgt := 7) dX1_checkPlaces_33 (by decide) ?_
        refine AW.widen (k' := 1 * (k + 1)) (n' := 6 * (k + 1)) (by omega) (by omega) (AW.loc ?_ (ih (k + 1) (by omega) (by omega) (fun i hi => by
          by_cases e : i = k
          · subst e; exact bI_n0 ck27
          · exact hx0 i (by omega))))
        exact ⟨rfl, rfl, rfl, rfl, trivial⟩
  exact loop 3 0 (by omega) (by omega) (fun i hi => absurd hi (Nat.not_lt_zero _))
abbrev rm_J9_init_3r : Room := { frames := 1, cells := 0, slots := 0, locals := 20 }
set_option maxHeartbeats 4000000 in
theorem j9_init_3r {lx : Launch} {g : GP} {h : AH} (htr : lx.stackTraces = false) {q : Nat} (h1 : h q = some (eO 6 [.null, .null, .null, .null, .null, .int 0, .int 0, .int 0])) : KT lx g yJ9_init_3 (ws_ yJ9_init_3 cJ9_init_3 5 none) rm_J9_init_3r 0 0 [.ref q, .null, .null, .int 0, .int 0] h (fun v h' => v = none ∧ h' = h) (noX) := by
  refine KT.of (by decide +kernel) htr (Nat.le_of_ble_eq_true rfl) (L0 := [some (.ref q), some (.null), some (.null), some (.int 0), some (.int 0)]) rfl ?_
  intro M cx hl9 hq hin hnx
  refine a_aload_n cx dJ9_init_3_0 rfl ?_
  refine a_objInit cx q380 q124 q125 dJ9_init_3_1 (Nat.le_of_ble_eq_true rfl) (Nat.le_of_ble_eq_true rfl) ?_
  refine a_aload_n cx dJ9_init_3_4 rfl ?_
  refine a_aload_n cx dJ9_init_3_5 rfl ?_
  refine a_put cx fl_J9_7_X7 dJ9_init_3_6 h1 rfl rfl (by exact (Nat.le_of_ble_eq_true rfl)) ?_
  refine a_aload_n cx dJ9_init_3_9 rfl ?_
  refine a_getsq cx cx.hG.ust.1 q381 dJ9_init_3_10 (fun v10 i10 => ?_)
  refine a_put cx fl_J9_17_X7 dJ9_init_3_13 (hset_s _ _ _) (by rcases isR.or i10 with e | ⟨a, e⟩ <;> subst e <;> rfl) (by rcases isR.or i10 with e | ⟨a, e⟩ <;> subst e <;> rfl) (by exact (Nat.le_of_ble_eq_true rfl)) ?_
  refine a_aload_n cx dJ9_init_3_16 rfl ?_
  refine a_getsq cx cx.hG.sup.1 q383 dJ9_init_3_17 (fun v17 i17 => ?_)
  refine a_put cx fl_J9_24_X7 dJ9_init_3_20 (hset_s _ _ _) (by rcases isR.or i17 with e | ⟨a, e⟩ <;> subst e <;> rfl) (by rcases isR.or i17 with e | ⟨a, e⟩ <;> subst e <;> rfl) (by exact (Nat.le_of_ble_eq_true rfl)) ?_
  refine a_iload cx dJ9_init_3_23 rfl ?_
  refine a_if_eq cx (tgt := 36) dJ9_init_3_25 (by decide) (fun c25 => ?_) (fun c25 => absurd rfl c25)
  refine a_aload_n cx dJ9_init_3_36 rfl ?_
  refine a_null cx dJ9_init_3_37 ?_
  refine a_put cx fl_J9_17_X7 dJ9_init_3_38 (hset_s _ _ _) rfl rfl (by exact (Nat.le_of_ble_eq_true rfl)) ?_
  refine a_aload_n cx dJ9_init_3_41 rfl ?_
  refine a_aload_n cx dJ9_init_3_42 rfl ?_
  refine a_put cx fl_J9_31_X7 dJ9_init_3_43 (hset_s _ _ _) rfl rfl (by exact (Nat.le_of_ble_eq_true rfl)) ?_
  refine a_aload_n cx dJ9_init_3_46 rfl ?_
  refine a_aload_n cx dJ9_init_3_47 rfl ?_
  refine a_put cx fl_J9_7_X7 dJ9_init_3_48 (hset_s _ _ _) rfl rfl (by exact (Nat.le_of_ble_eq_true rfl)) ?_
  refine a_iload_n cx dJ9_init_3_51 rfl ?_
  refine a_if_ne cx (tgt := 60) dJ9_init_3_52 (by decide) (fun c52 => absurd rfl c52) (fun c52 => ?_)
  refine a_aload_n cx dJ9_init_3_55 rfl ?_
  refine a_null cx dJ9_init_3_56 ?_
  refine a_put cx fl_J9_24_X7 dJ9_init_3_57 (hset_s _ _ _) rfl rfl (by exact (Nat.le_of_ble_eq_true rfl)) ?_
  exact a_vret cx hq dJ9_init_3_60 ⟨rfl, (by rw [hset_hset, hset_hset, hset_hset, hset_hset, hset_hset, hset_hset]; exact hset_same h1)⟩ (Nat.le_of_ble_eq_true rfl) (Nat.le_of_ble_eq_true rfl)
abbrev rm_J10_init_3r : Room := { frames := 2, cells := 0, slots := 0, locals := 44 }
set_option maxHeartbeats 4000000 in
theorem j10_init_3r {lx : Launch} {g : GP} {h : AH} (htr : lx.stackTraces = false) {q : Nat} (h1 : h q = some (eO 6 [.null, .null, .null, .null, .null, .int 0, .int 0, .int 0])) : KT lx g yJ10_init_3 (ws_ yJ10_init_3 cJ10_init_3 5 none) rm_J10_init_3r 0 0 [.ref q, .null, .null, .int 0, .int 0] h (fun v h' => v = none ∧ h' = h) (noX) := by
  refine KT.of (by decide +kernel) htr (Nat.le_of_ble_eq_true rfl) (L0 := [some (.ref q), some (.null), some (.null), some (.int 0), some (.int 0)]) rfl ?_
  intro M cx hl9 hq hin hnx
  refine a_aload_n cx dJ10_init_3_0 rfl ?_
  refine a_aload_n cx dJ10_init_3_1 rfl ?_
  refine a_aload_n cx dJ10_init_3_2 rfl ?_
  refine a_iload_n cx dJ10_init_3_3 rfl ?_
  refine a_iload cx dJ10_init_3_4 rfl ?_
  refine c_I cx (j9_init_3r cx.htr h1) (lw_meth q1189) q89 q1187 q1188 rfl dn_J9_init_3 (RN.of rfl rfl rfl rfl) rfl rfl (Nat.le_of_ble_eq_true rfl) dJ10_init_3_6 (Nat.le_of_ble_eq_true rfl) (Nat.le_of_ble_eq_true rfl) (fun v9 h hp9 => ?_) (fun E9 q9 h9 hx9 => hx9.elim)
  obtain ⟨rfl, rfl⟩ := hp9
  exact a_vret cx hq dJ10_init_3_9 ⟨rfl, rfl⟩ (Nat.le_of_ble_eq_true rfl) (Nat.le_of_ble_eq_true rfl)
abbrev rm_J9_init_3s : Room := { frames := 1, cells := 0, slots := 0, locals := 20 }
set_option maxHeartbeats 4000000 in
theorem j9_init_3s {lx : Launch} {g : GP} {h : AH} (htr : lx.stackTraces = false) {q : Nat} (h1 : h q = some (eO 11 [.null, .null, .null, .null, .null, .int 0, .int 0])) : KT lx g yJ9_init_3 (ws_ yJ9_init_3 cJ9_init_3 5 none) rm_J9_init_3s 0 0 [.ref q, .null, .null, .int 0, .int 0] h (fun v h' => v = none ∧ h' = h) (noX) := by
  refine KT.of (by decide +kernel) htr (Nat.le_of_ble_eq_true rfl) (L0 := [some (.ref q), some (.null), some (.null), some (.int 0), some (.int 0)]) rfl ?_
  intro M cx hl9 hq hin hnx
  refine a_aload_n cx dJ9_init_3_0 rfl ?_
  refine a_objInit cx q380 q124 q125 dJ9_init_3_1 (Nat.le_of_ble_eq_true rfl) (Nat.le_of_ble_eq_true rfl) ?_
  refine a_aload_n cx dJ9_init_3_4 rfl ?_
  refine a_aload_n cx dJ9_init_3_5 rfl ?_
  refine a_put cx fl_J9_7_X13 dJ9_init_3_6 h1 rfl rfl (by exact (Nat.le_of_ble_eq_true rfl)) ?_
  refine a_aload_n cx dJ9_init_3_9 rfl ?_
  refine a_getsq cx cx.hG.ust.1 q381 dJ9_init_3_10 (fun v10 i10 => ?_)
  refine a_put cx fl_J9_17_X13 dJ9_init_3_13 (hset_s _ _ _) (by rcases isR.or i10 with e | ⟨a, e⟩ <;> subst e <;> rfl) (by rcases isR.or i10 with e | ⟨a, e⟩ <;> subst e <;> rfl) (by exact (Nat.le_of_ble_eq_true rfl)) ?_
  refine a_aload_n cx dJ9_init_3_16 rfl ?_
  refine a_getsq cx cx.hG.sup.1 q383 dJ9_init_3_17 (fun v17 i17 => ?_)
  refine a_put cx fl_J9_24_X13 dJ9_init_3_20 (hset_s _ _ _) (by rcases isR.or i17 with e | ⟨a, e⟩ <;> subst e <;> rfl) (by rcases isR.or i17 with e | ⟨a, e⟩ <;> subst e <;> rfl) (by exact (Nat.le_of_ble_eq_true rfl)) ?_
  refine a_iload cx dJ9_init_3_23 rfl ?_
  refine a_if_eq cx (tgt := 36) dJ9_init_3_25 (by decide) (fun c25 => ?_) (fun c25 => absurd rfl c25)
  refine a_aload_n cx dJ9_init_3_36 rfl ?_
  refine a_null cx dJ9_init_3_37 ?_
  refine a_put cx fl_J9_17_X13 dJ9_init_3_38 (hset_s _ _ _) rfl rfl (by exact (Nat.le_of_ble_eq_true rfl)) ?_
  refine a_aload_n cx dJ9_init_3_41 rfl ?_
  refine a_aload_n cx dJ9_init_3_42 rfl ?_
  refine a_put cx fl_J9_31_X13 dJ9_init_3_43 (hset_s _ _ _) rfl rfl (by exact (Nat.le_of_ble_eq_true rfl)) ?_
  refine a_aload_n cx dJ9_init_3_46 rfl ?_
  refine a_aload_n cx dJ9_init_3_47 rfl ?_
  refine a_put cx fl_J9_7_X13 dJ9_init_3_48 (hset_s _ _ _) rfl rfl (by exact (Nat.le_of_ble_eq_true rfl)) ?_
  refine a_iload_n cx dJ9_init_3_51 rfl ?_
  refine a_if_ne cx (tgt := 60) dJ9_init_3_52 (by decide) (fun c52 => absurd rfl c52) (fun c52 => ?_)
  refine a_aload_n cx dJ9_init_3_55 rfl ?_
  refine a_null cx dJ9_init_3_56 ?_
  refine a_put cx fl_J9_24_X13 dJ9_init_3_57 (hset_s _ _ _) rfl rfl (by exact (Nat.le_of_ble_eq_true rfl)) ?_
  exact a_vret cx hq dJ9_init_3_60 ⟨rfl, (by rw [hset_hset, hset_hset, hset_hset, hset_hset, hset_hset, hset_hset]; exact hset_same h1)⟩ (Nat.le_of_ble_eq_true rfl) (Nat.le_of_ble_eq_true rfl)
abbrev rm_J10_init_3s : Room := { frames := 2, cells := 0, slots := 0, locals := 44 }
set_option maxHeartbeats 4000000 in
theorem j10_init_3s {lx : Launch} {g : GP} {h : AH} (htr : lx.stackTraces = false) {q : Nat} (h1 : h q = some (eO 11 [.null, .null, .null, .null, .null, .int 0, .int 0])) : KT lx g yJ10_init_3 (ws_ yJ10_init_3 cJ10_init_3 5 none) rm_J10_init_3s 0 0 [.ref q, .null, .null, .int 0, .int 0] h (fun v h' => v = none ∧ h' = h) (noX) := by
  refine KT.of (by decide +kernel) htr (Nat.le_of_ble_eq_true rfl) (L0 := [some (.ref q), some (.null), some (.null), some (.int 0), some (.int 0)]) rfl ?_
  intro M cx hl9 hq hin hnx
  refine a_aload_n cx dJ10_init_3_0 rfl ?_
  refine a_aload_n cx dJ10_init_3_1 rfl ?_
  refine a_aload_n cx dJ10_init_3_2 rfl ?_
  refine a_iload_n cx dJ10_init_3_3 rfl ?_
  refine a_iload cx dJ10_init_3_4 rfl ?_
  refine c_I cx (j9_init_3s cx.htr h1) (lw_meth q1189) q89 q1187 q1188 rfl dn_J9_init_3 (RN.of rfl rfl rfl rfl) rfl rfl (Nat.le_of_ble_eq_true rfl) dJ10_init_3_6 (Nat.le_of_ble_eq_true rfl) (Nat.le_of_ble_eq_true rfl) (fun v9 h hp9 => ?_) (fun E9 q9 h9 hx9 => hx9.elim)
  obtain ⟨rfl, rfl⟩ := hp9
  exact a_vret cx hq dJ10_init_3_9 ⟨rfl, rfl⟩ (Nat.le_of_ble_eq_true rfl) (Nat.le_of_ble_eq_true rfl)
abbrev rm_X7_init : Room := { frames := 3, cells := 0, slots := 0, locals := 68 }
set_option maxHeartbeats 4000000 in
theorem f7_init {lx : Launch} {g : GP} {h : AH} (htr : lx.stackTraces = false) {q : Nat} {r d : Int32} (h1 : h q = some (eO 6 [.null, .null, .null, .null, .null, .int 0, .int 0, .int 0])) (hB : gB g ≤ q) : KT lx g yX7_init (ws_ yX7_init cX7_init 3 none) rm_X7_init 0 0 [.ref q, .int r, .int d] h (fun v h' => v = none ∧ h' = hset h q (reE r d)) (noX) := by
  refine KT.of (by decide +kernel) htr (Nat.le_of_ble_eq_true rfl) (L0 := [some (.ref q), some (.int r), some (.int d)]) rfl ?_
  intro M cx hl9 hq hin hnx
  refine a_aload_n cx dX7_init_0 rfl ?_
  refine a_null cx dX7_init_1 ?_
  refine a_null cx dX7_init_2 ?_
  refine a_iconst cx (v := 0) dX7_init_3 (by decide) ?_
  refine a_iconst cx (v := 0) dX7_init_4 (by decide) ?_
  refine c_I cx (j10_init_3r cx.htr h1) (lw_meth q1186) q90 q1184 q1185 rfl dn_J10_init_3 (RN.of rfl rfl rfl rfl) rfl rfl (Nat.le_of_ble_eq_true rfl) dX7_init_5 (Nat.le_of_ble_eq_true rfl) (Nat.le_of_ble_eq_true rfl) (fun v9 h hp9 => ?_) (fun E9 q9 h9 hx9 => hx9.elim)
  obtain ⟨rfl, rfl⟩ := hp9
  refine a_aload_n cx dX7_init_8 rfl ?_
  refine a_iload_n cx dX7_init_9 rfl ?_
  refine a_putF cx (hin.trans rfl) fl_X7_7 dX7_init_10 h1 hB rfl rfl (by exact (Nat.le_of_ble_eq_true rfl)) ?_
  refine a_aload_n cx dX7_init_13 rfl ?_
  refine a_iload_n cx dX7_init_14 rfl ?_
  refine a_putF cx (hin.trans rfl) fl_X7_13 dX7_init_15 (hset_s _ _ _) hB rfl rfl (by exact (Nat.le_of_ble_eq_true rfl)) ?_
  exact a_vret cx hq dX7_init_18 ⟨rfl, by rw [hset_hset]; rfl⟩ (Nat.le_of_ble_eq_true rfl) (Nat.le_of_ble_eq_true rfl)
abbrev rm_X13_init : Room := { frames := 3, cells := 0, slots := 0, locals := 68 }
set_option maxHeartbeats 4000000 in
theorem f13_init {lx : Launch} {g : GP} {h : AH} (htr : lx.stackTraces = false) {q : Nat} {d : Int32} (h1 : h q = some (eO 11 [.null, .null, .null, .null, .null, .int 0, .int 0])) (hB : gB g ≤ q) : KT lx g yX13_init (ws_ yX13_init cX13_init 2 none) rm_X13_init 0 0 [.ref q, .int d] h (fun v h' => v = none ∧ h' = hset h q (syE d)) (noX) := by
  refine KT.of (by decide +kernel) htr (Nat.le_of_ble_eq_true rfl) (L0 := [some (.ref q), some (.int d)]) rfl ?_
  intro M cx hl9 hq hin hnx
  refine a_aload_n cx dX13_init_0 rfl ?_
  refine a_null cx dX13_init_1 ?_
  refine a_null cx dX13_init_2 ?_
  refine a_iconst cx (v := 0) dX13_init_3 (by decide) ?_
  refine a_iconst cx (v := 0) dX13_init_4 (by decide) ?_
  refine c_I cx (j10_init_3s cx.htr h1) (lw_meth q1186) q90 q1889 q1185 rfl dn_J10_init_3 (RN.of rfl rfl rfl rfl) rfl rfl (Nat.le_of_ble_eq_true rfl) dX13_init_5 (Nat.le_of_ble_eq_true rfl) (Nat.le_of_ble_eq_true rfl) (fun v9 h hp9 => ?_) (fun E9 q9 h9 hx9 => hx9.elim)
  obtain ⟨rfl, rfl⟩ := hp9
  refine a_aload_n cx dX13_init_8 rfl ?_
  refine a_iload_n cx dX13_init_9 rfl ?_
  refine a_putF cx (hin.trans rfl) fl_X13_7 dX13_init_10 h1 hB rfl rfl (by exact (Nat.le_of_ble_eq_true rfl)) ?_
  exact a_vret cx hq dX13_init_13 ⟨rfl, rfl⟩ (Nat.le_of_ble_eq_true rfl) (Nat.le_of_ble_eq_true rfl)
/-- refused -/
abbrev xR (g : GP) (r d : Int32) (P : Prop) (h : AH) : String → Nat → AH → Prop := fun E q h' => E = "FlockHuts$Refused" ∧ h q = none ∧ gB g ≤ q ∧ h' = hset h q (reE r d) ∧ P
abbrev rm_X7_check : Room := { frames := 4, cells := 1, slots := 8, locals := 90 }
set_option maxHeartbeats 4000000 in
theorem f7_check {lx : Launch} {g : GP} {h : AH} (htr : lx.stackTraces = false) {x r d : Int32} : KT lx g yX7_check (ws_ yX7_check cX7_check 3 none) rm_X7_check 1 8 [.int x, .int r, .int d] h (fun v h' => v = none ∧ h' = h ∧ ¬ x = 0) (xR g r d (x = 0) h) := by
  refine KT.of (by decide +kernel) htr (Nat.le_of_ble_eq_true rfl) (L0 := [some (.int x), some (.int r), some (.int d)]) rfl ?_
  intro M cx hl9 hq hin hnx
  refine a_iload_n cx dX7_check_0 rfl ?_
  refine a_if_ne cx (tgt := 14) dX7_check_1 (by decide) (fun c1 => ?_) (fun c1 => ?_)
  · exact a_vret cx hq dX7_check_14 ⟨rfl, rfl, c1⟩ (Nat.le_of_ble_eq_true rfl) (Nat.le_of_ble_eq_true rfl)
  · refine a_new cx nl_X7_8 dX7_check_4 (Nat.le_of_ble_eq_true rfl) (Nat.le_of_ble_eq_true rfl) (fun q n4 hB4 => ?_)
    refine a_dup cx dX7_check_7 rfl ?_
    refine a_iload_n cx dX7_check_8 rfl ?_
    refine a_iload_n cx dX7_check_9 rfl ?_
    refine c_I cx (f7_init cx.htr (hset_s _ _ _) hB4) (lw_meth q1183) q106 q1181 q1182 rfl dn_X7_init (RN.of rfl rfl rfl rfl) rfl rfl (Nat.le_of_ble_eq_true rfl) dX7_check_10 (Nat.le_of_ble_eq_true rfl) (Nat.le_of_ble_eq_true rfl) (fun v9 h hp9 => ?_) (fun E9 q9 h9 hx9 => hx9.elim)
    obtain ⟨rfl, rfl⟩ := hp9
    rw [hset_hset]
    exact a_athrow cx dX7_check_13 (hset_s _ _ _) rfl (AX.out cx hq hnx ⟨rfl, n4, hB4, rfl, c1⟩ (Nat.le_of_ble_eq_true rfl) (Nat.le_of_ble_eq_true rfl))
