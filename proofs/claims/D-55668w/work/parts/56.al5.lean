/-! ARRAYLISTS, looking for -/
set_option maxRecDepth 100000
abbrev rm_J2_indexOfRange : Room := { frames := 1, cells := 0, slots := 0, locals := 21 }
set_option maxHeartbeats 4000000 in
theorem j2_indexOfRange {lx : Launch} {g : GP} {h : AH} (htr : lx.stackTraces = false) {a ed x cap : Nat} {mc : Int32} {l : List Nat} {vs : List Value} (hl : AL g h a ed mc cap l) (hox : h x = some (eO 3 vs)) : KT lx g yJ2_indexOfRange (ws_ yJ2_indexOfRange cJ2_indexOfRange 6 (some .int)) rm_J2_indexOfRange 0 0 [.ref a, .ref x, .int (nI 0), .int (nI l.length)] h (isP (.int (oI (fi l x l.length))) h) (noX) := by
  refine KT.of (by decide +kernel) htr (Nat.le_of_ble_eq_true rfl) (L0 := [some (.ref a), some (.ref x), some (.int (nI 0)), some (.int (nI l.length)), none, none]) rfl ?_
  intro M cx hl9 hq hin hnx
  obtain ⟨ha, ⟨f, he, hf⟩, hlc, hc100, hc0⟩ := hl
  refine a_aload_n cx dJ2_indexOfRange_0 rfl ?_
  refine a_get cx fl_J2_9.g dJ2_indexOfRange_1 (by assumption) (by exact rfl) ?_
  refine a_astore cx dJ2_indexOfRange_4 (Nat.le_of_ble_eq_true rfl) rfl ?_
  refine a_aload_n cx dJ2_indexOfRange_6 rfl ?_
  refine a_ifnonnull cx (tgt := 39) dJ2_indexOfRange_7 (by decide) ?_
  refine a_iload_n cx dJ2_indexOfRange_39 rfl ?_
  refine a_istore cx dJ2_indexOfRange_40 (Nat.le_of_ble_eq_true rfl) rfl ?_
  have loop : ∀ (j k : Nat), k ≤ l.length → l.length < k + j → fi l x k = none → AW g M 0 0 42 [some (.ref a), some (.ref x), some (.int (nI 0)), some (.int (nI l.length)), some (.ref ed), some (.int (nI k))] [] h := by
    intro j
    induction j with
    | zero => intro k h1 h2; omega
    | succ j ih =>
      intro k h1 h2 hx0
      refine a_iload cx dJ2_indexOfRange_42 rfl ?_
      refine a_iload_n cx dJ2_indexOfRange_44 rfl ?_
      refine a_icmp_ge cx (tgt := 69) dJ2_indexOfRange_45 (by decide) (fun c45 => ?_) (fun c45 => ?_)
      · have d45 := le_nI c45 (by omega) (by omega)
        obtain rfl : k = l.length := by omega
        refine a_iconst cx (v := -1) dJ2_indexOfRange_69 (by decide) ?_
        exact a_iret cx hq dJ2_indexOfRange_70 ⟨by rw [hx0]; rfl, rfl⟩ (Nat.le_of_ble_eq_true rfl) (Nat.le_of_ble_eq_true rfl)
      · have d45 := nle_nI c45 (by omega) (by omega)
        refine a_aload_n cx dJ2_indexOfRange_48 rfl ?_
        refine a_aload cx dJ2_indexOfRange_49 rfl ?_
        refine a_iload cx dJ2_indexOfRange_51 rfl ?_
        refine a_aald cx dJ2_indexOfRange_53 he rfl (by omega) (by omega) ?_
        refine AW.top (show va_rf (f k) = .ref (l.getD k 0) by rw [hf k d45]; rfl) ?_
        refine c_U cx (j26_equals (x := x) (y := l.getD k 0) cx.htr) (lw_U q1245 q1247 q1257 q1246 q2435 q1269) dn_J26_equals (RN.of rfl rfl rfl rfl) rfl hox rfl rfl rfl (Nat.le_of_ble_eq_true rfl) dJ2_indexOfRange_54 (Nat.le_of_ble_eq_true rfl) (Nat.le_of_ble_eq_true rfl) (fun v9 h hp9 => ?_) (fun E9 q9 h9 hx9 => hx9.elim)
        obtain ⟨rfl, rfl⟩ := hp9
        refine a_if_eq cx (tgt := 63) dJ2_indexOfRange_57 (by decide) (fun c57 => ?_) (fun c57 => ?_)
        · have r : fi l x (k + 1) = none := by rw [fi, hx0]; exact if_neg (fun q => by have := (bI_0 _).mp c57; rw [q] at this; simp at this)
          refine a_iincN cx dJ2_indexOfRange_63 rfl (Nat.le_of_ble_eq_true rfl) rfl ?_
          refine a_goto cx (tgt := 42) dJ2_indexOfRange_66 (by decide) ?_
          exact ih (k + 1) (by omega) (by omega) r
        · have r : fi l x (k + 1) = some k := by rw [fi, hx0]; exact if_pos (beq_iff_eq.mp (bI_n0 c57)).symm
          refine a_iload cx dJ2_indexOfRange_60 rfl ?_
          exact a_iret cx hq dJ2_indexOfRange_62 ⟨by rw [fi_up r _ d45]; rfl, rfl⟩ (Nat.le_of_ble_eq_true rfl) (Nat.le_of_ble_eq_true rfl)
  exact loop (l.length + 1) 0 (by omega) (by omega) rfl
abbrev rm_J2_indexOf : Room := { frames := 2, cells := 0, slots := 0, locals := 46 }
set_option maxHeartbeats 4000000 in
theorem j2_indexOf {lx : Launch} {g : GP} {h : AH} (htr : lx.stackTraces = false) {a ed x cap : Nat} {mc : Int32} {l : List Nat} {vs : List Value} (hl : AL g h a ed mc cap l) (hox : h x = some (eO 3 vs)) : KT lx g yJ2_indexOf (ws_ yJ2_indexOf cJ2_indexOf 2 (some .int)) rm_J2_indexOf 0 0 [.ref a, .ref x] h (isP (.int (oI (fi l x l.length))) h) (noX) := by
  refine KT.of (by decide +kernel) htr (Nat.le_of_ble_eq_true rfl) (L0 := [some (.ref a), some (.ref x)]) rfl ?_
  intro M cx hl9 hq hin hnx
  have ha := hl.1
  refine a_aload_n cx dJ2_indexOf_0 rfl ?_
  refine a_aload_n cx dJ2_indexOf_1 rfl ?_
  refine a_iconst cx (v := 0) dJ2_indexOf_2 (by decide) ?_
  refine a_aload_n cx dJ2_indexOf_3 rfl ?_
  refine a_get cx fl_J2_48.g dJ2_indexOf_4 (by assumption) (by exact rfl) ?_
  refine c_Vp cx (j2_indexOfRange cx.htr hl hox) (lw_V q1328 q1329 q1330 q81 q1331) dn_J2_indexOfRange (RN.of rfl rfl rfl rfl) rfl (by assumption) rfl rfl rfl (Nat.le_of_ble_eq_true rfl) dJ2_indexOf_7 (Nat.le_of_ble_eq_true rfl) (Nat.le_of_ble_eq_true rfl) ?_
  exact a_iret cx hq dJ2_indexOf_10 ⟨rfl, rfl⟩ (Nat.le_of_ble_eq_true rfl) (Nat.le_of_ble_eq_true rfl)
