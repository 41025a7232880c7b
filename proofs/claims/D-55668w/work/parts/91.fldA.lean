/-! THE FIELD: copied -/
set_option maxRecDepth 100000
/-- .. and c - 2 of its numbers, and its dogs -/
def part2 (s : SF) (k j c : Nat) : SF := fun q => if q = 0 then nI k else if q = 1 then nI j else if q < 6 ∧ c ≤ q then 0 else s q
theorem nS_part {s : SF} {k j : Nat} (h : k < 2 ^ 31) : nS (part s k j) = k := nI_clamp h
theorem nH_part {s : SF} {k j : Nat} (h : j < 2 ^ 31) : nH (part s k j) = j := nI_clamp h
theorem part_hi {s : SF} {k j q : Nat} (h : 9 ≤ q) : part s k j q = s q := by
  unfold part
  rw [if_neg (by omega), if_neg (by omega), if_neg (by omega), if_neg (by omega)]
theorem part_k {s : SF} {k k' j q : Nat} (h : q ≠ 0) : part s k' j q = part s k j q := by
  unfold part
  rw [if_neg h, if_neg h]
theorem part_j {s : SF} {k j j' q : Nat} (h : q ≠ 1) : part s k j' q = part s k j q := by
  unfold part
  rw [if_neg h, if_neg h]
theorem part2_c {s : SF} {k j c c' q : Nat} (h : q < 2 ∨ 6 ≤ q) : part2 s k j c' q = part2 s k j c q := by
  unfold part2
  by_cases h0 : q = 0
  · rw [if_pos h0, if_pos h0]
  · by_cases h1 : q = 1
    · rw [if_neg h0, if_pos h1, if_neg h0, if_pos h1]
    · rw [if_neg h0, if_neg h1, if_neg h0, if_neg h1, if_neg (by omega), if_neg (by omega)]
theorem part2_n {s : SF} {k j c q : Nat} (h0 : q ≠ 0) (h1 : q ≠ 1) (h : ¬ (q < 6 ∧ c ≤ q)) : part2 s k j c q = s q := by
  unfold part2
  rw [if_neg h0, if_neg h1, if_neg h]
theorem FA.p0 {g : GP} {hb h : AH} {f : Nat} {s : SF} {a ea : Nat} {ma : Int32} {ca b eb : Nat} {mb : Int32} {cb d : Nat} {ls lh : List Nat} (hF : FA g hb h f sNew a ea ma ca b eb mb cb d ls lh) : FA g hb h f (part s 0 0) a ea ma ca b eb mb cb d ls lh := by
  have e0 : nS sNew = 0 := by unfold nS sNew; decide
  have e1 : nH sNew = 0 := by unfold nH sNew; decide
  refine hF.to rfl rfl (fun q h2 hq => ?_)
  rcases hq with hq | ⟨k, hk, -⟩ | ⟨k, hk, -⟩
  · rcases (show q = 2 ∨ q = 3 ∨ q = 4 ∨ q = 5 ∨ q = 6 ∨ q = 7 ∨ q = 8 by omega) with e | e | e | e | e | e | e <;> subst e <;> rfl
  · rw [e0] at hk; omega
  · rw [e1] at hk; omega
theorem hB_int {g : GP} {U : State} {h : AH} {d n : Nat} {fd : Nat → Int32} (hK : va_K g.1 allC (gT g) U) (hk : HK g h) (hd : h d = some (eI (g.2.1 0) (n + 1) fd)) : gB g ≤ d := hk.1 d _ hd (by
  have hne9 : (g.2.1 0 == g.2.1 1) = false := by simpa using gT_ne hK
  have h2 : (n + 1 == 0) = false := by simp
  simp only [gold, eI, hne9, h2, Bool.or_self])
theorem ne_gs {g : GP} {U : State} {H : Heap} (hG : GG g U H) {q : Nat} (h : gB g ≤ q) : q ≠ gs g 0 := fun z => by have := hG.ss 0 (by omega); omega
abbrev rm_X2_copy : Room := { frames := 16, cells := 54, slots := 2508, locals := 400 }
set_option maxHeartbeats 4000000 in
theorem f2_copy {lx : Launch} {g : GP} {h : AH} (htr : lx.stackTraces = false) {hb : AH} {f a ea ca b eb cb d : Nat} {ma mb : Int32} {ls lh : List Nat} {s : SF} (hF : FA g hb h f s a ea ma ca b eb mb cb d ls lh) (hn : nS s ≤ 18) (hm : nH s ≤ 6) (hS : WS s) : KT lx g yX2_copy (ws_ yX2_copy cX2_copy 5 (some (.object "FlockHuts$Field"))) rm_X2_copy 54 2508 [.ref f] h (fun v h' => ∃ f2 a2 ea2 ma2 ca2 b2 eb2 mb2 cb2 d2 ls2 lh2, v = some (.ref f2) ∧ FA g h h' f2 s a2 ea2 ma2 ca2 b2 eb2 mb2 cb2 d2 ls2 lh2) (noX) := by
  refine KT.of (by decide +kernel) htr (Nat.le_of_ble_eq_true rfl) (L0 := [some (.ref f), none, none, none, none]) rfl ?_
  intro M cx hl9 hq hin hnx
  have hR1 : rm_X2_copy.cells = 54 := rfl
  have hR2 : rm_X2_copy.slots = 2508 := rfl
  obtain ⟨hO, rfl⟩ : ∃ z, z = h := ⟨_, rfl⟩
  refine AW.hk fun hk9 => ?_
  refine a_new cx nl_X2_13 dX2_copy_0 (by omega) (by omega) (fun f2 n0 hB0 => ?_)
  refine a_dup cx dX2_copy_3 rfl ?_
  refine c_I cx (f2_init (hb := hO) cx.htr (hset_s _ _ _) hB0 (sub.new n0) n0) (lw_meth q130) q78 q297 q129 rfl dn_X2_init (RN.of rfl rfl rfl rfl) rfl rfl (Nat.le_of_ble_eq_true rfl) dX2_copy_4 (by omega) (by omega) (fun v9 h hp9 => ?_) (fun E9 q9 h9 hx9 => hx9.elim)
  obtain ⟨a2, b2, d2, rfl, hF2⟩ := hp9
  have hFs := hF.up hF2.ss
  refine a_astore_n cx dX2_copy_7 (Nat.le_of_ble_eq_true rfl) rfl ?_
  refine a_aload_n cx dX2_copy_8 rfl ?_
  refine a_get cx fl_X2_12.g dX2_copy_9 hFs.o (by exact rfl) ?_
  refine c_V cx (j2_iterator cx.htr hFs.la.1) (lw_V q298 q299 q300 q81 q301) dn_J2_iterator (RN.of rfl rfl rfl rfl) rfl hFs.la.1 rfl rfl rfl (Nat.le_of_ble_eq_true rfl) dX2_copy_12 (by omega) (by omega) (fun v9 h hp9 => ?_) (fun E9 q9 h9 hx9 => hx9.elim)
  obtain ⟨it, n12, hB12, rfl, rfl⟩ := hp9
  have hit0 := ne_gs cx.hG hB12
  have nit := hF2.ss.none n12
  have hF3 := (hF2.p0 (s := s)).put (q := it) (e := itE 0 (-1) ma a) hit0 (Or.inr n12)
  refine a_astore_n cx dX2_copy_15 (Nat.le_of_ble_eq_true rfl) rfl ?_
  have loop : ∀ (j0 k : Nat) (last : Int32) (h1 : AH) (ea2 : Nat) (ma2 : Int32) (ca2 : Nat) (ls2 : List Nat), k ≤ nS s → nS s < k + j0 → FA g (hset hO it (itE (nI k) last ma a)) h1 f2 (part s k 0) a2 ea2 ma2 ca2 b2 (gs g 0) 0 0 d2 ls2 [] → AW g M (5 + 2 * k) (20 + 104 * k) 16 [some (.ref f), some (.ref f2), some (.ref it), none, none] [] h1 := by
    intro j0
    induction j0 with
    | zero => intro k last h1 ea2 ma2 ca2 ls2 b1 b2; omega
    | succ j0 ih =>
      intro k last h1 ea2 ma2 ca2 ls2 g1 g2 hX
      have hs1 : sub hO h1 := (sub.new nit).tr hX.ss
      have hFs1 := hF.up hs1
      have hit1 := hX.ss _ _ (hset_s _ _ _)
      refine a_aload_n cx dX2_copy_16 rfl ?_
      refine c_F cx (j8_hasNext cx.htr hit1 hFs1.la.1 (by have := hF.nl; omega) (by omega)) (lw_F q322 q333 q335 q88 q337) (by decide +kernel) ⟨by decide, by decide, by decide +kernel⟩ (RN.of rfl rfl rfl rfl) rfl hit1 rfl rfl rfl (Nat.le_of_ble_eq_true rfl) dX2_copy_17 (by omega) (by omega) (pK ?_) (fun E9 q9 h9 hx9 => hx9.elim)
      refine a_if_eq cx (tgt := 51) dX2_copy_22 (by decide) (fun c22 => ?_) (fun c22 => ?_)
      · have d0 : k = nS s := (bne_eq_false_iff_eq.mp ((bI_0 _).mp c22)).trans hF.nl
        subst d0
        obtain ⟨C, eC⟩ : ∃ z, z = hset hO it (itE (nI (nS s)) last ma a) := ⟨_, rfl⟩
        rw [← eC] at hX
        have hsC : sub hO C := by rw [eC]; exact sub.new nit
        refine a_aload_n cx dX2_copy_51 rfl ?_
        refine a_get cx fl_X2_18.g dX2_copy_52 hFs1.o (by exact rfl) ?_
        refine c_V cx (j2_iterator cx.htr hFs1.lb.1) (lw_V q298 q299 q300 q81 q301) dn_J2_iterator (RN.of rfl rfl rfl rfl) rfl hFs1.lb.1 rfl rfl rfl (Nat.le_of_ble_eq_true rfl) dX2_copy_55 (by omega) (by omega) (fun v9 h hp9 => ?_) (fun E9 q9 h9 hx9 => hx9.elim)
        obtain ⟨it2, n55, hB55, rfl, rfl⟩ := hp9
        have hit20 := ne_gs cx.hG hB55
        have nit2 : C it2 = none := hX.ss.none n55
        have hY0 := hX.put (q := it2) (e := itE 0 (-1) mb b) hit20 (Or.inr n55)
        refine a_astore_n cx dX2_copy_58 (Nat.le_of_ble_eq_true rfl) rfl ?_
        have loop2 : ∀ (j0 j : Nat) (last2 : Int32) (h3 : AH) (eb2 : Nat) (mb2 : Int32) (cb2 : Nat) (lh2 : List Nat), j ≤ nH s → nH s < j + j0 → FA g (hset C it2 (itE (nI j) last2 mb b)) h3 f2 (part s (nS s) j) a2 ea2 ma2 ca2 b2 eb2 mb2 cb2 d2 ls2 lh2 → AW g M (42 + 2 * j) (1896 + 102 * j) 59 [some (.ref f), some (.ref f2), some (.ref it2), none, none] [] h3 := by
          intro j1
          induction j1 with
          | zero => intro j last2 h3 eb2 mb2 cb2 lh2 b1 b2; omega
          | succ j1 ih2 =>
            intro j last2 h3 eb2 mb2 cb2 lh2 g3 g4 hY
            have hs3 : sub hO h3 := (hsC.set (hsC.none nit2)).tr hY.ss
            have hFs3 := hF.up hs3
            have hit3 := hY.ss _ _ (hset_s _ _ _)
            refine a_aload_n cx dX2_copy_59 rfl ?_
            refine c_F cx (j8_hasNext cx.htr hit3 hFs3.lb.1 (by have := hF.nh; omega) (by omega)) (lw_F q322 q333 q335 q88 q337) (by decide +kernel) ⟨by decide, by decide, by decide +kernel⟩ (RN.of rfl rfl rfl rfl) rfl hit3 rfl rfl rfl (Nat.le_of_ble_eq_true rfl) dX2_copy_60 (by omega) (by omega) (pK ?_) (fun E9 q9 h9 hx9 => hx9.elim)
            refine a_if_eq cx (tgt := 98) dX2_copy_65 (by decide) (fun c65 => ?_) (fun c65 => ?_)
            · have d1 : j = nH s := (bne_eq_false_iff_eq.mp ((bI_0 _).mp c65)).trans hF.nh
              subst d1
              obtain ⟨fds, hds, hds2⟩ := hFs3.dg
              obtain ⟨fdt, hdt, hdt2⟩ := hY.dg
              refine AW.hk fun hk7 => ?_
              refine a_aload_n cx dX2_copy_98 rfl ?_
              refine a_get cx fl_X2_21.g dX2_copy_99 hFs3.o (by exact rfl) ?_
              refine a_iconst cx (v := 0) dX2_copy_102 (by decide) ?_
              refine a_aload_n cx dX2_copy_103 rfl ?_
              refine a_get cx fl_X2_21.g dX2_copy_104 hY.o (by exact rfl) ?_
              refine a_iconst cx (v := 0) dX2_copy_107 (by decide) ?_
              refine a_iconst cx (v := 3) dX2_copy_108 (by decide) ?_
              refine a_copyI cx 0 rfl rfl q625 q560 q559 q99 hds hdt (hB_int cx.hG.K hk7 hdt) (show (0 : Int32) = nI 0 from rfl) (show (0 : Int32) = nI 0 from rfl) (show (3 : Int32) = nI 3 from rfl) (by omega) (by omega) (by omega) (by omega) (fun _ _ => rfl) dX2_copy_109 (Nat.le_of_ble_eq_true rfl) (Nat.le_of_ble_eq_true rfl) ?_
              have hZ := hY.dogs (s' := part2 s (nS s) (nH s) 2) (fd := va_cpy fds fdt 0 0 3) (fun i hi => by rw [part2_n (by omega) (by omega) (by omega), ← hds2 i hi]; unfold va_cpy; rw [if_pos (by omega)]; congr 1; omega) (fun q hq => by
                unfold part part2
                by_cases h0 : q = 0
                · rw [if_pos h0, if_pos h0]
                · by_cases h1 : q = 1
                  · rw [if_neg h0, if_pos h1, if_neg h0, if_pos h1]
                  · rw [if_neg h0, if_neg h1, if_neg h0, if_neg h1]
                    by_cases h6 : q < 6
                    · rw [if_pos ⟨h6, by omega⟩, if_pos h6]
                    · rw [if_neg (by omega), if_neg h6, if_neg (by omega)])
              have hsB := hsC.set (hsC.none nit2) (e := itE (nI (nH s)) last2 mb b)
              have hFs5 := hF.up (hsB.tr hZ.ss)
              refine a_aload_n cx dX2_copy_112 rfl ?_
              refine a_aload_n cx dX2_copy_113 rfl ?_
              refine a_get cx fl_X2_61.g dX2_copy_114 hFs5.o (by exact rfl) ?_
              refine a_put cx fl_X2_61 dX2_copy_117 hZ.o rfl rfl (by exact (Nat.le_of_ble_eq_true rfl)) ?_
              have hW1 := hZ.ctr (s' := part2 s (nS s) (nH s) 3) (fun q h2 h3 h4 h5 => part2_c (by omega))
              refine a_aload_n cx dX2_copy_120 rfl ?_
              refine a_aload_n cx dX2_copy_121 rfl ?_
              refine a_get cx fl_X2_65.g dX2_copy_122 (hF.up (hsB.tr hW1.ss)).o (by exact rfl) ?_
              refine a_put cx fl_X2_65 dX2_copy_125 hW1.o rfl rfl (by exact (Nat.le_of_ble_eq_true rfl)) ?_
              have hW2 := hW1.ctr (s' := part2 s (nS s) (nH s) 4) (fun q h2 h3 h4 h5 => part2_c (by omega))
              refine a_aload_n cx dX2_copy_128 rfl ?_
              refine a_aload_n cx dX2_copy_129 rfl ?_
              refine a_get cx fl_X2_68.g dX2_copy_130 (hF.up (hsB.tr hW2.ss)).o (by exact rfl) ?_
              refine a_put cx fl_X2_68 dX2_copy_133 hW2.o rfl rfl (by exact (Nat.le_of_ble_eq_true rfl)) ?_
              have hW3 := hW2.ctr (s' := part2 s (nS s) (nH s) 5) (fun q h2 h3 h4 h5 => part2_c (by omega))
              refine a_aload_n cx dX2_copy_136 rfl ?_
              refine a_aload_n cx dX2_copy_137 rfl ?_
              refine a_get cx fl_X2_71.g dX2_copy_138 (hF.up (hsB.tr hW3.ss)).o (by exact rfl) ?_
              refine a_put cx fl_X2_71 dX2_copy_141 hW3.o rfl rfl (by exact (Nat.le_of_ble_eq_true rfl)) ?_
              have hW4 := hW3.ctr (s' := part2 s (nS s) (nH s) 6) (fun q h2 h3 h4 h5 => part2_c (by omega))
              refine a_aload_n cx dX2_copy_144 rfl ?_
              exact a_aret cx hq dX2_copy_145 (Or.inl ⟨_, rfl⟩) ⟨f2, a2, ea2, ma2, ca2, b2, eb2, mb2, cb2, d2, ls2, lh2, rfl, (hW4.to hS.1 hS.2.2.1 (fun q h2 _ => (part2_n (by omega) (by omega) (by omega)).symm)).less hsB⟩ (by omega) (by omega)
            · have d1 : j < nH s := by have q := bne_iff_ne.mp (bI_n0 c65); have := hF.nh; omega
              refine a_aload_n cx dX2_copy_68 rfl ?_
              refine c_F cx (j8_next cx.htr hit3 hFs3.lb (by rw [hF.nh]; exact d1)) (lw_F q339 q445 q447 q88 q449) (by decide +kernel) ⟨by decide, by decide, by decide +kernel⟩ (RN.of rfl rfl rfl rfl) rfl hit3 rfl rfl rfl (Nat.le_of_ble_eq_true rfl) dX2_copy_69 (by omega) (by omega) (pK ?_) (fun E9 q9 h9 hx9 => hx9.elim)
              have hY2 := hY.put (e := itE (nI (j + 1)) (nI j) mb b) hit20 (Or.inl ⟨_, hset_s _ _ _⟩)
              rw [hset_hset] at hY2
              obtain ⟨h4, eh4⟩ : ∃ z, z = hset h3 it2 (itE (nI (j + 1)) (nI j) mb b) := ⟨_, rfl⟩
              rw [← eh4]
              rw [← eh4] at hY2
              have hs4 : sub hO h4 := (hsC.set (hsC.none nit2)).tr hY2.ss
              have hhu := (hF.up hs4).hu d1
              have hnj : nH (part s (nS s) j) = j := nH_part (by omega)
              refine a_castS (r := (RX5, TX5, 2)) cx q563 dX2_copy_74 hhu rfl ?_
              refine a_astore_n cx dX2_copy_77 (Nat.le_of_ble_eq_true rfl) rfl ?_
              refine a_aload_n cx dX2_copy_78 rfl ?_
              refine a_get cx fl_X2_18.g dX2_copy_79 hY2.o (by exact rfl) ?_
              refine a_new cx nl_X2_50 dX2_copy_82 (by omega) (by omega) (fun y n82 hB82 => ?_)
              have hyne : lh.getD j 0 ≠ y := fun z => by rw [z, n82] at hhu; cases hhu
              refine a_dup cx dX2_copy_85 rfl ?_
              refine a_aload_n cx dX2_copy_86 rfl ?_
              refine c_I cx (f5_inith (w := 0) (u := 0) cx.htr (hset_s _ _ _) ((hset_n hyne).trans hhu) hyne) (lw_meth q567) q100 q565 q566 rfl dn_X5_init (RN.of rfl rfl rfl rfl) rfl rfl (Nat.le_of_ble_eq_true rfl) dX2_copy_87 (by omega) (by omega) (pV ?_) (fun E9 q9 h9 hx9 => hx9.elim)
              rw [hset_hset]
              have hY3 := hY2.up (sub.new n82 (e := huE (s (81 + j)) (s (87 + j))))
              refine c_V cx (j2_add cx.htr hY3.lb (by rw [hY3.nh, hnj]; omega) (isOb_hu (hset_s _ _ _)) (fun z => by have := hY2.lb.1; rw [← z, n82] at this; cases this) (fun y hy => by obtain ⟨k2, hk2, e⟩ := gD_mem hy; rw [← e]; exact isOb_hu (hY3.hu (by rw [← hY3.nh]; exact hk2))) (fun hy => by obtain ⟨k2, hk2, e⟩ := gD_mem hy; have := hY3.hu (j := k2) (by rw [← hY3.nh]; exact hk2); rw [e, hY3.lb.1] at this; cases this)) (lw_V q492 q493 q494 q81 q495) dn_J2_add (RN.of rfl rfl rfl rfl) rfl hY3.lb.1 rfl rfl rfl (Nat.le_of_ble_eq_true rfl) dX2_copy_90 (by omega) (by omega) (fun v9 h hp9 => ?_) (fun E9 q9 h9 hx9 => hx9.elim)
              obtain ⟨rfl, hA⟩ := hp9
              refine AW.hk fun hk8 => ?_
              obtain ⟨eb3, cb3, hY4⟩ := hY3.sets (s' := part s (nS s) (j + 1)) (x := y) (by rw [hnj, part_hi (by omega), part_hi (by omega)]; exact hset_s _ _ _) (hY2.ss.none n82) (fun k2 hk2 z => by have := hY2.hu hk2; rw [z, n82] at this; cases this) hA hk8.2.2.1 (by rw [hnj]; omega) (by rw [nS_part (by omega)]; exact hn) (by rw [hnj]; rfl) (fun q h0 _ _ => part_j h0)
              refine a_istore cx dX2_copy_93 (Nat.le_of_ble_eq_true rfl) rfl ?_
              refine a_goto cx (tgt := 59) dX2_copy_95 (by decide) ?_
              refine AW.widen ?_ ?_ (AW.loc ?_ (ih2 (j + 1) (nI j) _ eb3 _ cb3 _ (by omega) (by omega) hY4))
              · omega
              · omega
              · exact ⟨rfl, rfl, rfl, trivial⟩
        exact AW.widen (by omega) (by omega) (loop2 (nH s + 1) 0 (-1) _ _ _ _ _ (Nat.zero_le _) (by omega) hY0)
      · have d0 : k < nS s := by have q := bne_iff_ne.mp (bI_n0 c22); have := hF.nl; omega
        refine a_aload_n cx dX2_copy_25 rfl ?_
        refine c_F cx (j8_next cx.htr hit1 hFs1.la (by rw [hF.nl]; exact d0)) (lw_F q339 q445 q447 q88 q449) (by decide +kernel) ⟨by decide, by decide, by decide +kernel⟩ (RN.of rfl rfl rfl rfl) rfl hit1 rfl rfl rfl (Nat.le_of_ble_eq_true rfl) dX2_copy_26 (by omega) (by omega) (pK ?_) (fun E9 q9 h9 hx9 => hx9.elim)
        have hX2 := hX.put (e := itE (nI (k + 1)) (nI k) ma a) hit0 (Or.inl ⟨_, hset_s _ _ _⟩)
        rw [hset_hset] at hX2
        obtain ⟨h2, eh2⟩ : ∃ z, z = hset h1 it (itE (nI (k + 1)) (nI k) ma a) := ⟨_, rfl⟩
        rw [← eh2]
        rw [← eh2] at hX2
        have hs2 : sub hO h2 := (sub.new nit).tr hX2.ss
        have hsh := (hF.up hs2).sh d0
        have hnk : nS (part s k 0) = k := nS_part (by omega)
        refine a_castS (r := (RX4, TX4, 4)) cx q456 dX2_copy_31 hsh rfl ?_
        refine a_astore_n cx dX2_copy_34 (Nat.le_of_ble_eq_true rfl) rfl ?_
        refine a_aload_n cx dX2_copy_35 rfl ?_
        refine a_get cx fl_X2_12.g dX2_copy_36 hX2.o (by exact rfl) ?_
        refine a_aload_n cx dX2_copy_39 rfl ?_
        refine c_V cx (f4_copy cx.htr hsh) (lw_V q457 q458 q459 q95 q460) dn_X4_copy (RN.of rfl rfl rfl rfl) rfl hsh rfl rfl rfl (Nat.le_of_ble_eq_true rfl) dX2_copy_40 (by omega) (by omega) (fun v9 h hp9 => ?_) (fun E9 q9 h9 hx9 => hx9.elim)
        obtain ⟨x, n40, hB40, rfl, rfl⟩ := hp9
        have hX3 := hX2.up (sub.new n40 (e := shE (s (9 + k)) (s (27 + k)) (s (45 + k)) (s (63 + k))))
        refine c_V cx (j2_add cx.htr hX3.la (by rw [hX3.nl, hnk]; omega) (isOb_sh (hset_s _ _ _)) (fun z => by have := hX2.la.1; rw [← z, n40] at this; cases this) (fun y hy => by obtain ⟨k2, hk2, e⟩ := gD_mem hy; rw [← e]; exact isOb_sh (hX3.sh (by rw [← hX3.nl]; exact hk2))) (fun hy => by obtain ⟨k2, hk2, e⟩ := gD_mem hy; have := hX3.sh (k := k2) (by rw [← hX3.nl]; exact hk2); rw [e, hX3.la.1] at this; cases this)) (lw_V q492 q493 q494 q81 q495) dn_J2_add (RN.of rfl rfl rfl rfl) rfl hX3.la.1 rfl rfl rfl (Nat.le_of_ble_eq_true rfl) dX2_copy_43 (by omega) (by omega) (fun v9 h hp9 => ?_) (fun E9 q9 h9 hx9 => hx9.elim)
        obtain ⟨rfl, hA⟩ := hp9
        refine AW.hk fun hk8 => ?_
        obtain ⟨ea3, ca3, hX4⟩ := hX3.comes (s' := part s (k + 1) 0) (x := x) (by rw [hnk, part_hi (by omega), part_hi (by omega), part_hi (by omega), part_hi (by omega)]; exact hset_s _ _ _) (hX2.ss.none n40) (fun k2 hk2 z => by have := hX2.sh hk2; rw [z, n40] at this; cases this) hA hk8.2.2.1 (by rw [hnk]; omega) (by rw [hnk]; rfl) (fun q h0 _ _ _ _ => part_k h0)
        refine a_istore cx dX2_copy_46 (Nat.le_of_ble_eq_true rfl) rfl ?_
        refine a_goto cx (tgt := 16) dX2_copy_48 (by decide) ?_
        refine AW.widen ?_ ?_ (AW.loc ?_ (ih (k + 1) (nI k) _ ea3 _ ca3 _ (by omega) (by omega) hX4))
        · omega
        · omega
        · exact ⟨rfl, rfl, rfl, trivial⟩
  exact AW.widen (by omega) (by omega) (loop (nS s + 1) 0 (-1) _ _ _ _ _ (Nat.zero_le _) (by omega) hF3)
