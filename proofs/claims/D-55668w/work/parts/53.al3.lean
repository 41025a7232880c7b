/-! ARRAYLISTS, adding, 2 -/
set_option maxRecDepth 100000
abbrev rm_J2_grow_2 : Room := { frames := 3, cells := 1, slots := 100, locals := 84 }
set_option maxHeartbeats 4000000 in
theorem j2_grow_2 {lx : Launch} {g : GP} {h : AH} (htr : lx.stackTraces = false) {a ed n : Nat} {mc : Int32} {f : Nat → Option Nat} (ha : h a = some (eO 12 [.int mc, .ref ed, .int (nI n)])) (he : h ed = some (eQ (g.2.1 4) n f)) (hn : n < 60) (h0 : n = 0 → ed = gs g 0) (hob : ∀ i, i < n → ∀ y, f i = some y → isOb h y) : KT lx g yJ2_grow_2 (ws_ yJ2_grow_2 cJ2_grow_2 4 (some (.array (.object "java/lang/Object")))) rm_J2_grow_2 1 100 [.ref a, .int (nI (n + 1))] h (fun v h' => ∃ nd nc f', h nd = none ∧ gB g ≤ nd ∧ v = some (.ref nd) ∧ n < nc ∧ nc < 100 ∧ (∀ i, i < n → f' i = f i) ∧ h' = hset (hset h nd (eQ (g.2.1 4) nc f')) a (eO 12 [.int mc, .ref nd, .int (nI n)])) (noX) := by
  refine KT.of (by decide +kernel) htr (Nat.le_of_ble_eq_true rfl) (L0 := [some (.ref a), some (.int (nI (n + 1))), none, none]) rfl ?_
  intro M cx hl9 hq hin hnx
  refine a_aload_n cx dJ2_grow_2_0 rfl ?_
  refine a_get cx fl_J2_9.g dJ2_grow_2_1 (by assumption) (by exact rfl) ?_
  refine a_alen4 cx dJ2_grow_2_4 he ?_
  refine a_istore_n cx dJ2_grow_2_5 (Nat.le_of_ble_eq_true rfl) rfl ?_
  refine a_iload_n cx dJ2_grow_2_6 rfl ?_
  refine a_if_gt cx (tgt := 20) dJ2_grow_2_7 (by decide) (fun c7 => ?_) (fun c7 => ?_)
  · have d7 : 0 < n := lt_nI (a := 0) c7 (by omega) (by omega)
    refine a_iload_n cx dJ2_grow_2_20 rfl ?_
    refine a_iload_n cx dJ2_grow_2_21 rfl ?_
    refine a_iload_n cx dJ2_grow_2_22 rfl ?_
    refine a_isub cx dJ2_grow_2_23 ?_
    refine AW.topi (show _ = nI 1 from (pk_sub (Nat.le_succ n)).trans (by rw [show n + 1 - n = 1 by omega])) ?_
    refine a_iload_n cx dJ2_grow_2_24 rfl ?_
    refine a_iconst cx (v := 1) dJ2_grow_2_25 (by decide) ?_
    refine a_ishr cx dJ2_grow_2_26 ?_
    refine AW.topi (shr1 n (by omega)) ?_
    refine c_Sp cx (j15_newLength (o := n) (m := 1) (p := n / 2) cx.htr d7 (by omega) (by omega) (by omega)) (lw_S q508 q509 q96 q510) dn_J15_newLength (RN.of rfl rfl rfl rfl) rfl rfl (Nat.le_of_ble_eq_true rfl) dJ2_grow_2_27 (Nat.le_of_ble_eq_true rfl) (Nat.le_of_ble_eq_true rfl) ?_
    refine a_istore_n cx dJ2_grow_2_30 (Nat.le_of_ble_eq_true rfl) rfl ?_
    refine a_aload_n cx dJ2_grow_2_31 rfl ?_
    refine a_aload_n cx dJ2_grow_2_32 rfl ?_
    refine a_get cx fl_J2_9.g dJ2_grow_2_33 (by assumption) (by exact rfl) ?_
    refine a_iload_n cx dJ2_grow_2_36 rfl ?_
    refine c_S cx (j17_copyOf (m := n + max 1 (n / 2)) cx.htr he (by omega) (by omega) hob) (lw_S q518 q519 q98 q520) dn_J17_copyOf (RN.of rfl rfl rfl rfl) rfl rfl (Nat.le_of_ble_eq_true rfl) dJ2_grow_2_37 (Nat.le_of_ble_eq_true rfl) (Nat.le_of_ble_eq_true rfl) (fun v9 h hp9 => ?_) (fun E9 q9 h9 hx9 => hx9.elim)
    obtain ⟨nd, n9, hB9, rfl, rfl⟩ := hp9
    have hne : a ≠ nd := fun q => by rw [q, n9] at ha; cases ha
    refine a_dup_x1 cx dJ2_grow_2_40 rfl rfl ?_
    refine a_put cx fl_J2_9 dJ2_grow_2_41 ((hset_n hne).trans ha) rfl rfl (by exact (Nat.le_of_ble_eq_true rfl)) ?_
    exact a_aret cx hq dJ2_grow_2_44 (Or.inr ⟨_, rfl⟩) ⟨nd, n + max 1 (n / 2), _, n9, hB9, rfl, by omega, by omega, fun i hi => (by unfold va_cpy; rw [if_pos (by omega)]; congr 1; omega), rfl⟩ (Nat.le_of_ble_eq_true rfl) (Nat.le_of_ble_eq_true rfl)
  · have d7 : n = 0 := by have := nlt_nI (a := 0) c7 (by omega) (by omega); omega
    refine a_aload_n cx dJ2_grow_2_10 rfl ?_
    refine a_get cx fl_J2_9.g dJ2_grow_2_11 (by assumption) (by exact rfl) ?_
    refine a_gets cx cx.hG.dce q144 dJ2_grow_2_14 ?_
    refine a_acmp_eq cx (tgt := 45) (rx := some ed) (ry := some (gs g 0)) dJ2_grow_2_17 (by decide) (fun c17 => ?_) (fun c17 => absurd (congrArg some (h0 d7)) c17)
    refine a_aload_n cx dJ2_grow_2_45 rfl ?_
    refine a_bipush cx (v := 10) dJ2_grow_2_46 (by decide) ?_
    refine a_iload_n cx dJ2_grow_2_48 rfl ?_
    refine a_mmax cx (x := 10) (y := n + 1) q561 q512 q97 q513 (by omega) (by omega) dJ2_grow_2_49 (Nat.le_of_ble_eq_true rfl) (Nat.le_of_ble_eq_true rfl) (Nat.le_of_ble_eq_true rfl) (Nat.le_of_ble_eq_true rfl) ?_
    refine a_newaQ cx dJ2_grow_2_52 q562 rfl (by omega) (Nat.le_of_ble_eq_true rfl) (by show 0 + max 10 (n + 1) ≤ 100; omega) (fun nd n52 hB52 => ?_)
    refine AW.widen (Nat.le_refl _) (Nat.add_le_add_left (show max 10 (n + 1) ≤ 100 by omega) _) ?_
    have hne : a ≠ nd := fun q => by rw [q, n52] at ha; cases ha
    refine a_dup_x1 cx dJ2_grow_2_55 rfl rfl ?_
    refine a_put cx fl_J2_9 dJ2_grow_2_56 ((hset_n hne).trans ha) rfl rfl (by exact (Nat.le_of_ble_eq_true rfl)) ?_
    exact a_aret cx hq dJ2_grow_2_59 (Or.inr ⟨_, rfl⟩) ⟨nd, max 10 (n + 1), _, n52, hB52, rfl, by omega, by omega, fun i hi => (by omega), rfl⟩ (Nat.le_of_ble_eq_true rfl) (Nat.le_of_ble_eq_true rfl)
abbrev rm_J2_grow : Room := { frames := 4, cells := 1, slots := 100, locals := 107 }
set_option maxHeartbeats 4000000 in
theorem j2_grow {lx : Launch} {g : GP} {h : AH} (htr : lx.stackTraces = false) {a ed n : Nat} {mc : Int32} {f : Nat → Option Nat} (ha : h a = some (eO 12 [.int mc, .ref ed, .int (nI n)])) (he : h ed = some (eQ (g.2.1 4) n f)) (hn : n < 60) (h0 : n = 0 → ed = gs g 0) (hob : ∀ i, i < n → ∀ y, f i = some y → isOb h y) : KT lx g yJ2_grow (ws_ yJ2_grow cJ2_grow 1 (some (.array (.object "java/lang/Object")))) rm_J2_grow 1 100 [.ref a] h (fun v h' => ∃ nd nc f', h nd = none ∧ gB g ≤ nd ∧ v = some (.ref nd) ∧ n < nc ∧ nc < 100 ∧ (∀ i, i < n → f' i = f i) ∧ h' = hset (hset h nd (eQ (g.2.1 4) nc f')) a (eO 12 [.int mc, .ref nd, .int (nI n)])) (noX) := by
  refine KT.of (by decide +kernel) htr (Nat.le_of_ble_eq_true rfl) (L0 := [some (.ref a)]) rfl ?_
  intro M cx hl9 hq hin hnx
  refine a_aload_n cx dJ2_grow_0 rfl ?_
  refine a_aload_n cx dJ2_grow_1 rfl ?_
  refine a_get cx fl_J2_48.g dJ2_grow_2 (by assumption) (by exact rfl) ?_
  refine a_iconst cx (v := 1) dJ2_grow_5 (by decide) ?_
  refine a_iadd cx dJ2_grow_6 ?_
  refine AW.topi (nI_1 _) ?_
  refine c_V cx (j2_grow_2 cx.htr ha he hn h0 hob) (lw_V q504 q506 qs4 q81 q507) dn_J2_grow_2 (RN.of rfl rfl rfl rfl) rfl (by assumption) rfl rfl rfl (Nat.le_of_ble_eq_true rfl) dJ2_grow_7 (Nat.le_of_ble_eq_true rfl) (Nat.le_of_ble_eq_true rfl) (fun v9 h hp9 => ?_) (fun E9 q9 h9 hx9 => hx9.elim)
  obtain ⟨nd, nc, f9, n9, hB9, rfl, hc1, hc2, hf9, rfl⟩ := hp9
  exact a_aret cx hq dJ2_grow_10 (Or.inr ⟨_, rfl⟩) ⟨nd, nc, f9, n9, hB9, rfl, hc1, hc2, hf9, rfl⟩ (Nat.le_of_ble_eq_true rfl) (Nat.le_of_ble_eq_true rfl)
abbrev rm_J2_add_2 : Room := { frames := 5, cells := 1, slots := 100, locals := 127 }
set_option maxHeartbeats 4000000 in
theorem j2_add_2 {lx : Launch} {g : GP} {h : AH} (htr : lx.stackTraces = false) {a ed x cap : Nat} {mc : Int32} {l : List Nat} (hl : AL g h a ed mc cap l) (hl60 : l.length < 60) (hox : isOb h x) (hxa9 : x ≠ a) (hobs : ∀ y, y ∈ l → isOb h y) : KT lx g yJ2_add_2 (ws_ yJ2_add_2 cJ2_add_2 4 none) rm_J2_add_2 1 100 [.ref a, .ref x, .ref ed, .int (nI l.length)] h (fun v h' => v = none ∧ ADD g h a ed mc l x h') (noX) := by
  refine KT.of (by decide +kernel) htr (Nat.le_of_ble_eq_true rfl) (L0 := [some (.ref a), some (.ref x), some (.ref ed), some (.int (nI l.length))]) rfl ?_
  intro M cx hl9 hq hin hnx
  obtain ⟨ha, ⟨f, he, hf⟩, hlc, hc100, hc0⟩ := hl
  refine AW.hk fun hk9 => ?_
  have hBe : 0 < cap → gB g ≤ ed := fun hp => hk9.1 ed _ he (by
    have h2 : (cap == 0) = false := by simp; omega
    have hne9 : (g.2.1 4 == g.2.1 1) = false := by simpa using gT_ne41 cx.hG.K
    simp only [gold, eQ, hne9, h2, Bool.or_self])
  have J : ∀ (nd nc : Nat) (f9 : Nat → Option Nat) (k9 n9 : Nat) (h1 : AH), k9 ≤ 1 → n9 ≤ 100 → h1 a = some (eO 12 [.int mc, .ref nd, .int (nI l.length)]) → h1 nd = some (eQ (g.2.1 4) nc f9) → (∀ i, i < l.length → f9 i = some (l.getD i 0)) → l.length < nc → nc < 100 → (nd = ed ∨ h nd = none) → (∀ q e, h q = some e → q ≠ a → (q = ed → nd ≠ ed) → h1 q = some e) → gB g ≤ nd → AW g M k9 n9 11 [some (.ref a), some (.ref x), some (.ref nd), some (.int (nI l.length))] [] h1 := by
    intro nd nc f9 k9 n9 h1 hk9 hn9 g1 g2 g3 g4 g5 g6 g7 g8
    have hxa : x ≠ a := fun q => by
      obtain ⟨ci, fs, r, o1, o2, o3⟩ := hox
      rw [q, ha] at o1
      exact hxa9 q
    have hxe : x ≠ ed := fun q => by
      obtain ⟨ci, fs, r, o1, o2, o3⟩ := hox
      rw [q, he] at o1; cases o1
    obtain ⟨ci, fs, r, o1, o2, o3⟩ := hox
    have hx1 := g7 x _ o1 hxa (fun q => absurd q hxe)
    refine a_aload_n cx dJ2_add_2_11 rfl ?_
    refine a_iload_n cx dJ2_add_2_12 rfl ?_
    refine a_aload_n cx dJ2_add_2_13 rfl ?_
    refine a_aast cx dJ2_add_2_14 g2 g8 hx1 o2 o3 rfl g4 (by omega) ?_
    refine a_aload_n cx dJ2_add_2_15 rfl ?_
    refine a_iload_n cx dJ2_add_2_16 rfl ?_
    refine a_iconst cx (v := 1) dJ2_add_2_17 (by decide) ?_
    refine a_iadd cx dJ2_add_2_18 ?_
    refine AW.topi (nI_1 _) ?_
    refine a_put cx fl_J2_48 dJ2_add_2_19 ((hset_n (fun q => by rw [← q, g1] at g2; cases g2)).trans g1) rfl rfl (by exact (Nat.le_of_ble_eq_true rfl)) ?_
    exact a_vret cx hq dJ2_add_2_22 ⟨rfl, AL.push g1 g2 g3 g4 g5 g6 g7⟩ hk9 hn9
  refine a_iload_n cx dJ2_add_2_0 rfl ?_
  refine a_aload_n cx dJ2_add_2_1 rfl ?_
  refine a_alen4 cx dJ2_add_2_2 he ?_
  refine a_icmp_ne cx (tgt := 11) dJ2_add_2_3 (by decide) (fun c3 => ?_) (fun c3 => ?_)
  · have d3 : l.length ≠ cap := fun q => c3 (by rw [q])
    exact J ed cap f _ _ h (Nat.zero_le _) (Nat.zero_le _) ha he hf (by omega) hc100 (Or.inl rfl) (fun q e hq _ _ => hq) (hBe (by omega))
  · have d3 : l.length = cap := nI_inj (by omega) (by omega) c3
    refine a_aload_n cx dJ2_add_2_6 rfl ?_
    refine c_V cx (j2_grow (n := l.length) cx.htr ha (by rw [d3]; exact he) hl60 (fun q => hc0 (by omega)) (fun i hi y hy => by rw [hf i hi] at hy; cases hy; exact hobs _ (getD_mem hi))) (lw_V q500 q502 qs3 q81 q503) dn_J2_grow (RN.of rfl rfl rfl rfl) rfl (by assumption) rfl rfl rfl (Nat.le_of_ble_eq_true rfl) dJ2_add_2_7 (Nat.le_of_ble_eq_true rfl) (Nat.le_of_ble_eq_true rfl) (fun v9 h hp9 => ?_) (fun E9 q9 h9 hx9 => hx9.elim)
    obtain ⟨nd, nc, f9, n9, hB9, rfl, hc1, hc2, hf9, rfl⟩ := hp9
    have hna : a ≠ nd := fun q => by rw [q, n9] at ha; cases ha
    refine a_astore_n cx dJ2_add_2_10 (Nat.le_of_ble_eq_true rfl) rfl ?_
    exact J nd nc f9 _ _ _ (Nat.le_of_ble_eq_true rfl) (Nat.le_of_ble_eq_true rfl) (hset_s _ _ _) ((hset_n (Ne.symm hna)).trans (hset_s _ _ _)) (fun i hi => (hf9 i hi).trans (hf i hi)) hc1 hc2 (Or.inr n9) (fun q e hq hqa _ => (hset_n hqa).trans ((hset_n (fun q9 => by rw [q9, n9] at hq; cases hq)).trans hq)) hB9
