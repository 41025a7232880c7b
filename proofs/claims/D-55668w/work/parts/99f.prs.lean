/-! THE PARSER -/
set_option maxRecDepth 100000
abbrev psE (sb : Nat) (p : Int32) : va_E := eO 10 [.ref sb, .int p]
def cT (s : List Nat) : Nat → Int32 := fun i => nI (s.getD i 0)
abbrev hrs (s : List Nat) (p : Nat) : Int32 := hr (cT s) s.length p
theorem hrs_lt {s : List Nat} {p : Nat} (h : p < s.length) : hrs s p = nI (s.getD p 0) := if_pos h
theorem hrs_ge {s : List Nat} {p : Nat} (h : ¬ p < s.length) : hrs s p = -1 := if_neg h
/-- a malformed input, at p -/
abbrev xS (g : GP) (pa sb p : Nat) (P : Prop) (h : AH) : String → Nat → AH → Prop := fun E q h' => E = "FlockHuts$SyntaxException" ∧ h q = none ∧ gB g ≤ q ∧ h' = hset (hset h pa (psE sb (nI p))) q (syE (nI p)) ∧ P
abbrev rm_X12_init : Room := { frames := 1, cells := 0, slots := 0, locals := 20 }
set_option maxHeartbeats 4000000 in
theorem f12_init {lx : Launch} {g : GP} {h : AH} (htr : lx.stackTraces = false) {pa sb : Nat} (h1 : h pa = some (eO 10 [.null, .int 0])) (hB : gB g ≤ pa) : KT lx g yX12_init (ws_ yX12_init cX12_init 2 none) rm_X12_init 0 0 [.ref pa, .ref sb] h (fun v h' => v = none ∧ h' = hset h pa (psE sb 0)) (noX) := by
  refine KT.of (by decide +kernel) htr (Nat.le_of_ble_eq_true rfl) (L0 := [some (.ref pa), some (.ref sb)]) rfl ?_
  intro M cx hl9 hq hin hnx
  refine a_aload_n cx dX12_init_0 rfl ?_
  refine a_objInit cx q1767 q124 q125 dX12_init_1 (Nat.le_of_ble_eq_true rfl) (Nat.le_of_ble_eq_true rfl) ?_
  refine a_aload_n cx dX12_init_4 rfl ?_
  refine a_aload_n cx dX12_init_5 rfl ?_
  refine a_putF cx (hin.trans rfl) fl_X12_9 dX12_init_6 h1 hB rfl rfl (by exact (Nat.le_of_ble_eq_true rfl)) ?_
  exact a_vret cx hq dX12_init_9 ⟨rfl, rfl⟩ (Nat.le_of_ble_eq_true rfl) (Nat.le_of_ble_eq_true rfl)
abbrev rm_X12_isNext : Room := { frames := 4, cells := 0, slots := 0, locals := 88 }
set_option maxHeartbeats 4000000 in
theorem f12_isNext {lx : Launch} {g : GP} {h : AH} (htr : lx.stackTraces = false) {pa sb b cap p : Nat} {s : List Nat} (hpa : h pa = some (psE sb (nI p))) (hS : SB g h sb b cap s) (has_ : asc s) {lo hi : Int32} (hlo : (-1 : Int32) < lo) (hp31 : p < 2 ^ 30) : KT lx g yX12_isNext (ws_ yX12_isNext cX12_isNext 3 (some .boolean)) rm_X12_isNext 0 0 [.ref pa, .int lo, .int hi] h (isP (.int (bI (inR (hrs s p) lo hi))) h) (noX) := by
  refine KT.of (by decide +kernel) htr (Nat.le_of_ble_eq_true rfl) (L0 := [some (.ref pa), some (.int lo), some (.int hi)]) rfl ?_
  intro M cx hl9 hq hin hnx
  have hs16 := has_.1
  refine a_aload_n cx dX12_isNext_0 rfl ?_
  refine a_get cx fl_X12_15.g dX12_isNext_1 hpa (by exact rfl) ?_
  refine a_aload_n cx dX12_isNext_4 rfl ?_
  refine a_get cx fl_X12_9.g dX12_isNext_5 hpa (by exact rfl) ?_
  refine c_F cx (j5_length cx.htr hS.1) (lw_F q1795 q1803 q965 q84 q966) (by decide +kernel) ⟨by decide, by decide, by decide +kernel⟩ (RN.of rfl rfl rfl rfl) rfl hS.1 rfl rfl rfl (Nat.le_of_ble_eq_true rfl) dX12_isNext_8 (Nat.le_of_ble_eq_true rfl) (Nat.le_of_ble_eq_true rfl) (pK ?_) (fun E9 q9 h9 hx9 => hx9.elim)
  refine a_icmp_ge cx (tgt := 44) dX12_isNext_13 (by decide) (fun c13 => ?_) (fun c13 => ?_)
  · have d13 : ¬ p < s.length := fun z => absurd (le_nI c13 (by omega) (by omega)) (by omega)
    have r : inR (hrs s p) lo hi = false := by rw [hrs_ge d13]; exact inR_f (Or.inl hlo)
    refine a_iconst cx (v := 0) dX12_isNext_44 (by decide) ?_
    exact a_zret cx hq dX12_isNext_45 rfl ⟨by rw [r]; rfl, rfl⟩ (Nat.le_of_ble_eq_true rfl) (Nat.le_of_ble_eq_true rfl)
  · have d13 : p < s.length := nle_nI c13 (by omega) (by omega)
    refine a_aload_n cx dX12_isNext_16 rfl ?_
    refine a_get cx fl_X12_9.g dX12_isNext_17 hpa (by exact rfl) ?_
    refine a_aload_n cx dX12_isNext_20 rfl ?_
    refine a_get cx fl_X12_15.g dX12_isNext_21 hpa (by exact rfl) ?_
    refine c_F (na := 1) cx (j5_charAt cx.htr hS has_ d13) (lw_F q1810 q1816 q1818 q84 q1820) (by decide +kernel) ⟨by decide, by decide, by decide +kernel⟩ (RN.of rfl rfl rfl rfl) rfl hS.1 rfl rfl rfl (Nat.le_of_ble_eq_true rfl) dX12_isNext_24 (Nat.le_of_ble_eq_true rfl) (Nat.le_of_ble_eq_true rfl) (pK ?_) (fun E9 q9 h9 hx9 => hx9.elim)
    refine AW.topi (show _ = hrs s p from (hrs_lt d13).symm) ?_
    refine a_i2l cx dX12_isNext_29 rfl ?_
    refine a_iload_n cx dX12_isNext_30 rfl ?_
    refine a_i2l cx dX12_isNext_31 rfl ?_
    refine a_iload_n cx dX12_isNext_32 rfl ?_
    refine a_i2l cx dX12_isNext_33 rfl ?_
    refine c_SN cx (f1_inRange (x := hrs s p) (y := lo) (z := hi) cx.htr) (lw_meth q795) q77 q1908 q794 dn_X1_inRange (RN.of rfl rfl rfl rfl) rfl rfl (Nat.le_of_ble_eq_true rfl) dX12_isNext_34 (Nat.le_of_ble_eq_true rfl) (Nat.le_of_ble_eq_true rfl) (pK ?_) (fun E9 q9 h9 hx9 => hx9.elim)
    refine a_if_eq cx (tgt := 44) dX12_isNext_37 (by decide) (fun c37 => ?_) (fun c37 => ?_)
    · have r := (bI_0 _).mp c37
      refine a_iconst cx (v := 0) dX12_isNext_44 (by decide) ?_
      exact a_zret cx hq dX12_isNext_45 rfl ⟨by rw [r]; rfl, rfl⟩ (Nat.le_of_ble_eq_true rfl) (Nat.le_of_ble_eq_true rfl)
    · have r := bI_n0 c37
      refine a_iconst cx (v := 1) dX12_isNext_40 (by decide) ?_
      refine a_goto cx (tgt := 45) dX12_isNext_41 (by decide) ?_
      exact a_zret cx hq dX12_isNext_45 rfl ⟨by rw [r]; rfl, rfl⟩ (Nat.le_of_ble_eq_true rfl) (Nat.le_of_ble_eq_true rfl)
abbrev rm_X12_take : Room := { frames := 5, cells := 1, slots := 7, locals := 110 }
set_option maxHeartbeats 4000000 in
theorem f12_take {lx : Launch} {g : GP} {h : AH} (htr : lx.stackTraces = false) {pa sb b cap p : Nat} {s : List Nat} (hpa : h pa = some (psE sb (nI p))) (hS : SB g h sb b cap s) (has_ : asc s) {lo hi : Int32} (hlo : (-1 : Int32) < lo) (hp31 : p < 2 ^ 30) : KT lx g yX12_take (ws_ yX12_take cX12_take 3 (some .int)) rm_X12_take 1 7 [.ref pa, .int lo, .int hi] h (fun v h' => v = some (.int (hrs s p - lo)) ∧ h' = hset h pa (psE sb (nI (p + 1))) ∧ inR (hrs s p) lo hi = true ∧ p < s.length) (xS g pa sb p (inR (hrs s p) lo hi = false) h) := by
  refine KT.of (by decide +kernel) htr (Nat.le_of_ble_eq_true rfl) (L0 := [some (.ref pa), some (.int lo), some (.int hi)]) rfl ?_
  intro M cx hl9 hq hin hnx
  refine a_aload_n cx dX12_take_0 rfl ?_
  refine a_iload_n cx dX12_take_1 rfl ?_
  refine a_iload_n cx dX12_take_2 rfl ?_
  refine c_V cx (f12_isNext cx.htr hpa hS has_ hlo hp31) (lw_V q1904 q1906 qs25 q116 q1907) dn_X12_isNext (RN.of rfl rfl rfl rfl) rfl hpa rfl rfl rfl (Nat.le_of_ble_eq_true rfl) dX12_take_3 (Nat.le_of_ble_eq_true rfl) (Nat.le_of_ble_eq_true rfl) (pK ?_) (fun E9 q9 h9 hx9 => hx9.elim)
  refine a_if_ne cx (tgt := 21) dX12_take_6 (by decide) (fun c6 => ?_) (fun c6 => ?_)
  · have r := bI_n0 c6
    have dp : p < s.length := by
      refine Classical.byContradiction fun z => ?_
      rw [hrs_ge z, inR_f (Or.inl hlo)] at r
      cases r
    refine a_aload_n cx dX12_take_21 rfl ?_
    refine a_dup cx dX12_take_22 rfl ?_
    refine a_get cx fl_X12_15.g dX12_take_23 hpa (by exact rfl) ?_
    refine a_iconst cx (v := 1) dX12_take_26 (by decide) ?_
    refine a_iadd cx dX12_take_27 ?_
    refine AW.topi (nI_1 _) ?_
    refine a_put cx fl_X12_15 dX12_take_28 hpa rfl rfl (by exact (Nat.le_of_ble_eq_true rfl)) ?_
    have hS2 := (hS.off (e := psE sb (nI (p + 1))) hpa nofun nofun).1
    refine a_aload_n cx dX12_take_31 rfl ?_
    refine a_get cx fl_X12_9.g dX12_take_32 (hset_s _ _ _) (by exact rfl) ?_
    refine a_aload_n cx dX12_take_35 rfl ?_
    refine a_get cx fl_X12_15.g dX12_take_36 (hset_s _ _ _) (by exact rfl) ?_
    refine a_iconst cx (v := 1) dX12_take_39 (by decide) ?_
    refine a_isub cx dX12_take_40 ?_
    refine AW.topi (show _ = nI p from (show nI (p + 1) - nI 1 = _ from pk_sub (by omega))) ?_
    refine c_F (na := 1) cx (j5_charAt cx.htr hS2 has_ dp) (lw_F q1810 q1816 q1818 q84 q1820) (by decide +kernel) ⟨by decide, by decide, by decide +kernel⟩ (RN.of rfl rfl rfl rfl) rfl hS2.1 rfl rfl rfl (Nat.le_of_ble_eq_true rfl) dX12_take_41 (Nat.le_of_ble_eq_true rfl) (Nat.le_of_ble_eq_true rfl) (pK ?_) (fun E9 q9 h9 hx9 => hx9.elim)
    refine AW.topi (show _ = hrs s p from (hrs_lt dp).symm) ?_
    refine a_iload_n cx dX12_take_46 rfl ?_
    refine a_isub cx dX12_take_47 ?_
    exact a_iret cx hq dX12_take_48 ⟨rfl, rfl, r, dp⟩ (Nat.le_of_ble_eq_true rfl) (Nat.le_of_ble_eq_true rfl)
  · have r := (bI_0 _).mp c6
    refine a_new cx nl_X12_37 dX12_take_9 (Nat.le_of_ble_eq_true rfl) (Nat.le_of_ble_eq_true rfl) (fun q n9 hB9 => ?_)
    have hqp : pa ≠ q := fun z => by rw [z, n9] at hpa; cases hpa
    refine a_dup cx dX12_take_12 rfl ?_
    refine a_aload_n cx dX12_take_13 rfl ?_
    refine a_get cx fl_X12_15.g dX12_take_14 ((hset_n hqp).trans hpa) (by exact rfl) ?_
    refine c_I cx (f13_init cx.htr (hset_s _ _ _) hB9) (lw_meth q1888) q117 q1886 q1887 rfl dn_X13_init (RN.of rfl rfl rfl rfl) rfl rfl (Nat.le_of_ble_eq_true rfl) dX12_take_17 (Nat.le_of_ble_eq_true rfl) (Nat.le_of_ble_eq_true rfl) (pV ?_) (fun E9 q9 h9 hx9 => hx9.elim)
    rw [hset_hset]
    exact a_athrow cx dX12_take_20 (hset_s _ _ _) rfl (AX.out cx hq hnx ⟨rfl, n9, hB9, by rw [hset_same hpa], r⟩ (Nat.le_of_ble_eq_true rfl) (Nat.le_of_ble_eq_true rfl))
abbrev nbs (s : List Nat) (p : Nat) : Nat × Bool × Int32 := numb (cT s) s.length p
theorem inR_eq {x c : Int32} : inR x c c = true ↔ x = c := by
  rw [inR_iff]
  exact ⟨fun h => Int32.le_antisymm h.2 h.1, fun h => by rw [h]; exact ⟨Int32.le_refl _, Int32.le_refl _⟩⟩
abbrev rm_X12_number : Room := { frames := 12, cells := 4, slots := 40, locals := 240 }
set_option maxHeartbeats 4000000 in
theorem f12_number {lx : Launch} {g : GP} {h : AH} (htr : lx.stackTraces = false) {pa sb b cap p : Nat} {s : List Nat} (hpa : h pa = some (psE sb (nI p))) (hS : SB g h sb b cap s) (has_ : asc s) (hp31 : p < 2 ^ 20) : KT lx g yX12_number (ws_ yX12_number cX12_number 3 (some .int)) rm_X12_number 4 40 [.ref pa] h (fun v h' => v = some (.int (nbs s p).2.2) ∧ h' = hset h pa (psE sb (nI (nbs s p).1)) ∧ (nbs s p).2.1 = false ∧ (nbs s p).1 ≤ s.length) (xS g pa sb (nbs s p).1 ((nbs s p).2.1 = true) h) := by
  refine KT.of (by decide +kernel) htr (Nat.le_of_ble_eq_true rfl) (L0 := [some (.ref pa), none, none]) rfl ?_
  intro M cx hl9 hq hin hnx
  have hR1 : rm_X12_number.cells = 4 := rfl
  have hR2 : rm_X12_number.slots = 40 := rfl
  have hn_ : ∀ {q : Nat} {e : va_E}, hset h pa e q = none → h q = none := fun {q e} z => by
    by_cases y : q = pa
    · rw [y, hset_s] at z; cases z
    · rw [hset_n y] at z; exact z
  refine a_aload_n cx dX12_number_0 rfl ?_
  refine a_bipush cx (v := 32) dX12_number_1 (by decide) ?_
  refine a_bipush cx (v := 32) dX12_number_3 (by decide) ?_
  refine c_V cx (f12_take (p := p) (lo := 32) cx.htr hpa hS has_ (by decide) (by omega)) (lw_V q1900 q1902 qs24 q116 q1903) dn_X12_take (RN.of rfl rfl rfl rfl) rfl hpa rfl rfl rfl (Nat.le_of_ble_eq_true rfl) dX12_number_5 (by omega) (by omega) (fun v9 h hp9 => ?_) (fun E9 q9 h9 hx9 => AX.out cx hq hnx (by obtain ⟨e1, e2, e3, e4, e5⟩ := hx9; have hz : nbs s p = (p, true, 0) := (if_neg (fun z => Bool.noConfusion ((inR_eq.mpr z).symm.trans e5))); exact ⟨e1, e2, e3, by rw [hz]; exact e4, by rw [hz]⟩) (by omega) (by omega))
  obtain ⟨rfl, rfl, r1, d1⟩ := hp9
  replace r1 : hr (cT s) s.length p = 32 := inR_eq.mp r1
  have hS1 := (hS.off (e := psE sb (nI (p + 1))) hpa nofun nofun).1
  refine a_istore_n cx dX12_number_8 (Nat.le_of_ble_eq_true rfl) rfl ?_
  refine a_aload_n cx dX12_number_9 rfl ?_
  refine a_bipush cx (v := 48) dX12_number_10 (by decide) ?_
  refine a_bipush cx (v := 57) dX12_number_12 (by decide) ?_
  refine c_V cx (f12_take (p := p + 1) (lo := 48) cx.htr (hset_s _ _ _) hS1 has_ (by decide) (by omega)) (lw_V q1900 q1902 qs24 q116 q1903) dn_X12_take (RN.of rfl rfl rfl rfl) rfl (hset_s _ _ _) rfl rfl rfl (Nat.le_of_ble_eq_true rfl) dX12_number_14 (by omega) (by omega) (fun v9 h hp9 => ?_) (fun E9 q9 h9 hx9 => AX.out cx hq hnx (by obtain ⟨e1, e2, e3, e4, e5⟩ := hx9; exact (by have hz : nbs s p = (p + 1, true, 0) := (by unfold nbs numb; rw [if_pos r1, if_neg (by rw [show inR (hr (cT s) s.length (p + 1)) 48 57 = false from e5]; decide)]); exact ⟨e1, hn_ e2, e3, by rw [hz, e4, hset_hset], by rw [hz]⟩)) (by omega) (by omega))
  obtain ⟨rfl, rfl, r2, d2⟩ := hp9
  replace r2 : inR (hr (cT s) s.length (p + 1)) 48 57 = true := r2
  rw [hset_hset]
  have hS2 := (hS.off (e := psE sb (nI (p + 2))) hpa nofun nofun).1
  refine a_istore_n cx dX12_number_17 (Nat.le_of_ble_eq_true rfl) rfl ?_
  refine a_aload_n cx dX12_number_18 rfl ?_
  refine a_bipush cx (v := 48) dX12_number_19 (by decide) ?_
  refine a_bipush cx (v := 57) dX12_number_21 (by decide) ?_
  refine c_V cx (f12_isNext (p := p + 2) (lo := 48) (hi := 57) cx.htr (hset_s _ _ _) hS2 has_ (by decide) (by omega)) (lw_V q1904 q1906 qs25 q116 q1907) dn_X12_isNext (RN.of rfl rfl rfl rfl) rfl (hset_s _ _ _) rfl rfl rfl (Nat.le_of_ble_eq_true rfl) dX12_number_23 (by omega) (by omega) (pK ?_) (fun E9 q9 h9 hx9 => hx9.elim)
  refine a_if_eq cx (tgt := 45) dX12_number_26 (by decide) (fun c26 => ?_) (fun c26 => ?_)
  · have r3 : ¬ inR (hr (cT s) s.length (p + 2)) 48 57 = true := by rw [show inR (hr (cT s) s.length (p + 2)) 48 57 = false from (bI_0 _).mp c26]; decide
    have hz : nbs s p = (p + 2, false, hr (cT s) s.length (p + 1) - 48) := by unfold nbs numb; rw [if_pos r1, if_pos r2, if_neg r3]
    refine a_iload_n cx dX12_number_45 rfl ?_
    exact a_iret cx hq dX12_number_46 ⟨by rw [hz], by rw [hz], by rw [hz], by rw [hz]; exact d2⟩ (by omega) (by omega)
  · have r3 : inR (hr (cT s) s.length (p + 2)) 48 57 = true := bI_n0 c26
    have hz : nbs s p = (p + 3, false, 10 * (hr (cT s) s.length (p + 1) - 48) + hr (cT s) s.length (p + 2) - 48) := by unfold nbs numb; rw [if_pos r1, if_pos r2, if_pos r3]
    refine a_bipush cx (v := 10) dX12_number_29 (by decide) ?_
    refine a_iload_n cx dX12_number_31 rfl ?_
    refine a_imul cx dX12_number_32 ?_
    refine a_aload_n cx dX12_number_33 rfl ?_
    refine a_bipush cx (v := 48) dX12_number_34 (by decide) ?_
    refine a_bipush cx (v := 57) dX12_number_36 (by decide) ?_
    refine c_V cx (f12_take (p := p + 2) (lo := 48) cx.htr (hset_s _ _ _) hS2 has_ (by decide) (by omega)) (lw_V q1900 q1902 qs24 q116 q1903) dn_X12_take (RN.of rfl rfl rfl rfl) rfl (hset_s _ _ _) rfl rfl rfl (Nat.le_of_ble_eq_true rfl) dX12_number_38 (by omega) (by omega) (fun v9 h hp9 => ?_) (fun E9 q9 h9 hx9 => (absurd r3 (by rw [show inR (hr (cT s) s.length (p + 2)) 48 57 = false from hx9.2.2.2.2]; decide)))
    obtain ⟨rfl, rfl, r4, d4⟩ := hp9
    rw [hset_hset]
    refine a_iadd cx dX12_number_41 ?_
    refine AW.topi (show _ = 10 * (hr (cT s) s.length (p + 1) - 48) + hr (cT s) s.length (p + 2) - 48 by grind) ?_
    refine a_goto cx (tgt := 46) dX12_number_42 (by decide) ?_
    exact a_iret cx hq dX12_number_46 ⟨by rw [hz], by rw [hz], by rw [hz], by rw [hz]; exact d4⟩ (by omega) (by omega)
