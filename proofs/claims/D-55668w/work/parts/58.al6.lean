/-! ARRAYLISTS, removing -/
set_option maxRecDepth 100000
abbrev rm_J2_fastRemove : Room := { frames := 1, cells := 0, slots := 0, locals := 40 }
set_option maxHeartbeats 4000000 in
theorem j2_fastRemove {lx : Launch} {g : GP} {h : AH} (htr : lx.stackTraces = false) {a ed i cap : Nat} {mc : Int32} {l : List Nat} (hl : AL g h a ed mc cap l) (hobs : ∀ y, y ∈ l → isOb h y) (hal : a ∉ l) (hi : i < l.length) : KT lx g yJ2_fastRemove (ws_ yJ2_fastRemove cJ2_fastRemove 4 none) rm_J2_fastRemove 0 0 [.ref a, .ref ed, .int (nI i)] h (fun v h' => v = none ∧ REM g h a ed mc cap l i h') (noX) := by
  refine KT.of (by decide +kernel) htr (Nat.le_of_ble_eq_true rfl) (L0 := [some (.ref a), some (.ref ed), some (.int (nI i)), none]) rfl ?_
  intro M cx hl9 hq hin hnx
  have hne := hl.ne
  obtain ⟨ha, ⟨f, he, hf⟩, hlc, hc100, hc0⟩ := hl
  refine AW.hk fun hk9 => ?_
  have hBe : gB g ≤ ed := hk9.1 ed _ he (by
    have h2 : (cap == 0) = false := by simp; omega
    have hne9 : (g.2.1 4 == g.2.1 1) = false := by simpa using gT_ne41 cx.hG.K
    simp only [gold, eQ, hne9, h2, Bool.or_self])
  have J : ∀ (f1 : Nat → Option Nat) (h1 : AH), h1 a = some (eO 12 [.int (mc + 1), .ref ed, .int (nI l.length)]) → h1 ed = some (eQ (g.2.1 4) cap f1) → (∀ k, k < l.length - 1 → f1 k = some ((l.eraseIdx i).getD k 0)) → (∀ q, q ≠ a → q ≠ ed → h1 q = h q) → AW g M 0 0 34 [some (.ref a), some (.ref ed), some (.int (nI i)), some (.int (nI (l.length - 1)))] [] h1 := by
    intro f1 h1 g1 g2 g3 g4
    refine a_aload_n cx dJ2_fastRemove_34 rfl ?_
    refine a_aload_n cx dJ2_fastRemove_35 rfl ?_
    refine a_iload_n cx dJ2_fastRemove_36 rfl ?_
    refine a_dup_x1 cx dJ2_fastRemove_37 rfl rfl ?_
    refine a_put cx fl_J2_48 dJ2_fastRemove_38 g1 rfl rfl (by exact (Nat.le_of_ble_eq_true rfl)) ?_
    refine a_null cx dJ2_fastRemove_41 ?_
    refine a_aastN cx dJ2_fastRemove_42 ((hset_n hne).trans g2) hBe rfl (by omega) (by omega) ?_
    exact a_vret cx hq dJ2_fastRemove_43 ⟨rfl, REM.of hi hne g2 g3 g4 hc100 hlc hc0⟩ (Nat.le_of_ble_eq_true rfl) (Nat.le_of_ble_eq_true rfl)
  refine a_aload_n cx dJ2_fastRemove_0 rfl ?_
  refine a_dup cx dJ2_fastRemove_1 rfl ?_
  refine a_get cx fl_J2_63.g dJ2_fastRemove_2 (by assumption) (by exact rfl) ?_
  refine a_iconst cx (v := 1) dJ2_fastRemove_5 (by decide) ?_
  refine a_iadd cx dJ2_fastRemove_6 ?_
  refine a_put cx fl_J2_63 dJ2_fastRemove_7 (by assumption) rfl rfl (by exact (Nat.le_of_ble_eq_true rfl)) ?_
  have hE : hset h a (eO 12 [.int (mc + 1), .ref ed, .int (nI l.length)]) ed = some (eQ (g.2.1 4) cap f) := (hset_n hne).trans he
  refine a_aload_n cx dJ2_fastRemove_10 rfl ?_
  refine a_get cx fl_J2_48.g dJ2_fastRemove_11 (hset_s _ _ _) (by exact rfl) ?_
  refine a_iconst cx (v := 1) dJ2_fastRemove_14 (by decide) ?_
  refine a_isub cx dJ2_fastRemove_15 ?_
  refine AW.topi (nI_p (by omega) (by omega)) ?_
  refine a_dup cx dJ2_fastRemove_16 rfl ?_
  refine a_istore_n cx dJ2_fastRemove_17 (Nat.le_of_ble_eq_true rfl) rfl ?_
  refine a_iload_n cx dJ2_fastRemove_18 rfl ?_
  refine a_icmp_le cx (tgt := 34) dJ2_fastRemove_19 (by decide) (fun c19 => ?_) (fun c19 => ?_)
  · have d19 := le_nI c19 (by omega) (by omega)
    exact J f _ (hset_s _ _ _) hE (fun k hk => by rw [erase_at, if_pos (by omega)]; exact hf k (by omega)) (fun q h1 h2 => hset_n h1)
  · have d19 := nle_nI c19 (by omega) (by omega)
    refine a_aload_n cx dJ2_fastRemove_22 rfl ?_
    refine a_iload_n cx dJ2_fastRemove_23 rfl ?_
    refine a_iconst cx (v := 1) dJ2_fastRemove_24 (by decide) ?_
    refine a_iadd cx dJ2_fastRemove_25 ?_
    refine AW.topi (nI_1 _) ?_
    refine a_aload_n cx dJ2_fastRemove_26 rfl ?_
    refine a_iload_n cx dJ2_fastRemove_27 rfl ?_
    refine a_iload_n cx dJ2_fastRemove_28 rfl ?_
    refine a_iload_n cx dJ2_fastRemove_29 rfl ?_
    refine a_isub cx dJ2_fastRemove_30 ?_
    refine AW.topi (pk_sub (by omega)) ?_
    refine a_copyQ cx q1274 q560 q559 q99 hE hE hBe rfl rfl rfl (by omega) (by omega) (by omega) (by omega) (fun k hk y hy => by rw [hf (i + 1 + k) (by omega)] at hy; cases hy; exact (hobs _ (getD_mem (by omega))).set (fun q => hal (by rw [← q]; exact getD_mem (by omega)))) dJ2_fastRemove_31 (Nat.le_of_ble_eq_true rfl) (Nat.le_of_ble_eq_true rfl) ?_
    exact J _ _ ((hset_n (Ne.symm hne)).trans (hset_s _ _ _)) (hset_s _ _ _) (fun k hk => by
      rw [erase_at]
      unfold va_cpy
      by_cases h1 : k < i
      · rw [if_pos h1, if_neg (by omega)]; exact hf k (by omega)
      · rw [if_neg h1, if_pos (by omega), show i + 1 + (k - i) = k + 1 by omega]; exact hf (k + 1) (by omega)) (fun q h1 h2 => (hset_n h2).trans (hset_n h1))
abbrev rm_J2_remove_2 : Room := { frames := 2, cells := 0, slots := 0, locals := 63 }
set_option maxHeartbeats 4000000 in
theorem j2_remove_2 {lx : Launch} {g : GP} {h : AH} (htr : lx.stackTraces = false) {a ed i cap : Nat} {mc : Int32} {l : List Nat} (hl : AL g h a ed mc cap l) (hobs : ∀ y, y ∈ l → isOb h y) (hal : a ∉ l) (hi : i < l.length) : KT lx g yJ2_remove_2 (ws_ yJ2_remove_2 cJ2_remove_2 4 (some (.object "java/lang/Object"))) rm_J2_remove_2 0 0 [.ref a, .int (nI i)] h (fun v h' => v = some (.ref (l.getD i 0)) ∧ REM g h a ed mc cap l i h') (noX) := by
  refine KT.of (by decide +kernel) htr (Nat.le_of_ble_eq_true rfl) (L0 := [some (.ref a), some (.int (nI i)), none, none]) rfl ?_
  intro M cx hl9 hq hin hnx
  obtain ⟨ha, ⟨f, he, hf⟩, hlc, hc100, hc0⟩ := hl
  refine a_iload_n cx dJ2_remove_2_0 rfl ?_
  refine a_aload_n cx dJ2_remove_2_1 rfl ?_
  refine a_get cx fl_J2_48.g dJ2_remove_2_2 (by assumption) (by exact rfl) ?_
  refine c_Sp cx (j13_checkIndex cx.htr hi (by omega)) (lw_S q429 q430 q93 q431) dn_J13_checkIndex (RN.of rfl rfl rfl rfl) rfl rfl (Nat.le_of_ble_eq_true rfl) dJ2_remove_2_5 (Nat.le_of_ble_eq_true rfl) (Nat.le_of_ble_eq_true rfl) ?_
  refine a_pop cx dJ2_remove_2_8 rfl ?_
  refine a_aload_n cx dJ2_remove_2_9 rfl ?_
  refine a_get cx fl_J2_9.g dJ2_remove_2_10 (by assumption) (by exact rfl) ?_
  refine a_astore_n cx dJ2_remove_2_13 (Nat.le_of_ble_eq_true rfl) rfl ?_
  refine a_aload_n cx dJ2_remove_2_14 rfl ?_
  refine a_iload_n cx dJ2_remove_2_15 rfl ?_
  refine a_aald cx dJ2_remove_2_16 he rfl (by omega) (by omega) ?_
  refine AW.top (show va_rf (f i) = .ref (l.getD i 0) by rw [hf i hi]; rfl) ?_
  refine a_astore_n cx dJ2_remove_2_17 (Nat.le_of_ble_eq_true rfl) rfl ?_
  refine a_aload_n cx dJ2_remove_2_18 rfl ?_
  refine a_aload_n cx dJ2_remove_2_19 rfl ?_
  refine a_iload_n cx dJ2_remove_2_20 rfl ?_
  refine c_V cx (j2_fastRemove cx.htr ⟨ha, ⟨f, he, hf⟩, hlc, hc100, hc0⟩ hobs hal hi) (lw_V q1270 q1272 qs11 q81 q1273) dn_J2_fastRemove (RN.of rfl rfl rfl rfl) rfl (by assumption) rfl rfl rfl (Nat.le_of_ble_eq_true rfl) dJ2_remove_2_21 (Nat.le_of_ble_eq_true rfl) (Nat.le_of_ble_eq_true rfl) (fun v9 h hp9 => ?_) (fun E9 q9 h9 hx9 => hx9.elim)
  obtain ⟨rfl, hR⟩ := hp9
  refine a_aload_n cx dJ2_remove_2_24 rfl ?_
  exact a_aret cx hq dJ2_remove_2_25 (Or.inl ⟨_, rfl⟩) ⟨rfl, hR⟩ (Nat.le_of_ble_eq_true rfl) (Nat.le_of_ble_eq_true rfl)
abbrev rm_J2_remove : Room := { frames := 2, cells := 0, slots := 0, locals := 63 }
set_option maxHeartbeats 4000000 in
theorem j2_remove {lx : Launch} {g : GP} {h : AH} (htr : lx.stackTraces = false) {a ed x i cap : Nat} {mc : Int32} {l : List Nat} {vs : List Value} (hl : AL g h a ed mc cap l) (hobs : ∀ y, y ∈ l → isOb h y) (hal : a ∉ l) (hox : h x = some (eO 3 vs)) (hfi : fi l x l.length = some i) : KT lx g yJ2_remove (ws_ yJ2_remove cJ2_remove 5 (some .boolean)) rm_J2_remove 0 0 [.ref a, .ref x] h (fun v h' => v = some (.int 1) ∧ REM g h a ed mc cap l i h') (noX) := by
  refine KT.of (by decide +kernel) htr (Nat.le_of_ble_eq_true rfl) (L0 := [some (.ref a), some (.ref x), none, none, none]) rfl ?_
  intro M cx hl9 hq hin hnx
  obtain ⟨ha, ⟨f, he, hf⟩, hlc, hc100, hc0⟩ := hl
  refine a_aload_n cx dJ2_remove_0 rfl ?_
  refine a_get cx fl_J2_9.g dJ2_remove_1 (by assumption) (by exact rfl) ?_
  refine a_astore_n cx dJ2_remove_4 (Nat.le_of_ble_eq_true rfl) rfl ?_
  refine a_aload_n cx dJ2_remove_5 rfl ?_
  refine a_get cx fl_J2_48.g dJ2_remove_6 (by assumption) (by exact rfl) ?_
  refine a_istore_n cx dJ2_remove_9 (Nat.le_of_ble_eq_true rfl) rfl ?_
  refine a_iconst cx (v := 0) dJ2_remove_10 (by decide) ?_
  refine a_istore cx dJ2_remove_11 (Nat.le_of_ble_eq_true rfl) rfl ?_
  refine a_aload_n cx dJ2_remove_13 rfl ?_
  refine a_ifnonnull cx (tgt := 39) dJ2_remove_14 (by decide) ?_
  have loop : ∀ (j k : Nat), k ≤ l.length → l.length < k + j → fi l x k = none → AW g M 0 0 39 [some (.ref a), some (.ref x), some (.ref ed), some (.int (nI l.length)), some (.int (nI k))] [] h := by
    intro j
    induction j with
    | zero => intro k h1 h2; omega
    | succ j ih =>
      intro k h1 h2 hx0
      refine a_iload cx dJ2_remove_39 rfl ?_
      refine a_iload_n cx dJ2_remove_41 rfl ?_
      refine a_icmp_ge cx (tgt := 65) dJ2_remove_42 (by decide) (fun c42 => ?_) (fun c42 => ?_)
      · have d42 := le_nI c42 (by omega) (by omega)
        obtain rfl : k = l.length := by omega
        rw [hx0] at hfi
        cases hfi
      · have d42 := nle_nI c42 (by omega) (by omega)
        refine a_aload_n cx dJ2_remove_45 rfl ?_
        refine a_aload_n cx dJ2_remove_46 rfl ?_
        refine a_iload cx dJ2_remove_47 rfl ?_
        refine a_aald cx dJ2_remove_49 he rfl (by omega) (by omega) ?_
        refine AW.top (show va_rf (f k) = .ref (l.getD k 0) by rw [hf k d42]; rfl) ?_
        refine c_U cx (j26_equals (x := x) (y := l.getD k 0) cx.htr) (lw_U q1245 q1247 q1257 q1246 q2435 q1269) dn_J26_equals (RN.of rfl rfl rfl rfl) rfl hox rfl rfl rfl (Nat.le_of_ble_eq_true rfl) dJ2_remove_50 (Nat.le_of_ble_eq_true rfl) (Nat.le_of_ble_eq_true rfl) (fun v9 h hp9 => ?_) (fun E9 q9 h9 hx9 => hx9.elim)
        obtain ⟨rfl, rfl⟩ := hp9
        refine a_if_eq cx (tgt := 59) dJ2_remove_53 (by decide) (fun c53 => ?_) (fun c53 => ?_)
        · have r : fi l x (k + 1) = none := by rw [fi, hx0]; exact if_neg (fun q => by have := (bI_0 _).mp c53; rw [q] at this; simp at this)
          refine a_iincN cx dJ2_remove_59 rfl (Nat.le_of_ble_eq_true rfl) rfl ?_
          refine a_goto cx (tgt := 39) dJ2_remove_62 (by decide) ?_
          exact ih (k + 1) (by omega) (by omega) r
        · have r : fi l x (k + 1) = some k := by rw [fi, hx0]; exact if_pos (beq_iff_eq.mp (bI_n0 c53)).symm
          obtain rfl : k = i := Option.some.inj ((fi_up r _ d42).symm.trans hfi)
          refine a_goto cx (tgt := 67) dJ2_remove_56 (by decide) ?_
          refine a_aload_n cx dJ2_remove_67 rfl ?_
          refine a_aload_n cx dJ2_remove_68 rfl ?_
          refine a_iload cx dJ2_remove_69 rfl ?_
          refine c_V cx (j2_fastRemove cx.htr ⟨ha, ⟨f, he, hf⟩, hlc, hc100, hc0⟩ hobs hal d42) (lw_V q1270 q1272 qs11 q81 q1273) dn_J2_fastRemove (RN.of rfl rfl rfl rfl) rfl (by assumption) rfl rfl rfl (Nat.le_of_ble_eq_true rfl) dJ2_remove_71 (Nat.le_of_ble_eq_true rfl) (Nat.le_of_ble_eq_true rfl) (fun v9 h hp9 => ?_) (fun E9 q9 h9 hx9 => hx9.elim)
          obtain ⟨rfl, hR⟩ := hp9
          refine a_iconst cx (v := 1) dJ2_remove_74 (by decide) ?_
          exact a_zret cx hq dJ2_remove_75 rfl ⟨rfl, hR⟩ (Nat.le_of_ble_eq_true rfl) (Nat.le_of_ble_eq_true rfl)
  exact loop (l.length + 1) 0 (by omega) (by omega) rfl
