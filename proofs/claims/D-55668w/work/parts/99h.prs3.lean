/-! THE PARSER: words -/
set_option maxRecDepth 100000
abbrev rm_X12_word : Room := { frames := 14, cells := 180, slots := 22500, locals := 420 }
set_option maxHeartbeats 4000000 in
theorem f12_word {lx : Launch} {g : GP} {h : AH} (htr : lx.stackTraces = false) {hb : AH} {pa sb b cap p : Nat} {s : List Nat} (hs : sub hb h) (npa : hb pa = none) (hpa : h pa = some (psE sb (nI p))) (hS : SB g hb sb b cap s) (has_ : asc s) (hp31 : p < 2 ^ 20) (hsl : s.length ≤ 64) : KT lx g yX12_word (ws_ yX12_word cX12_word 3 (some (.object "java/lang/String"))) rm_X12_word 180 22500 [.ref pa] h (fun v h' => ∃ w wb, v = some (.ref w) ∧ (wrd s 8 [] p).2.1 = false ∧ TRI (wrd s 8 [] p).2.2 ∧ (wrd s 8 [] p).1 = p + (wrd s 8 [] p).2.2.length ∧ sub hb h' ∧ h' pa = some (psE sb (nI (wrd s 8 [] p).1)) ∧ h' w = some (eO 15 [.ref wb, .int 0, .int (shash (wrd s 8 [] p).2.2), .int (zf (wrd s 8 [] p).2.2)]) ∧ h' wb = some (eI (g.2.1 1) (wrd s 8 [] p).2.2.length (sCh (wrd s 8 [] p).2.2))) (fun E q h' => E = "FlockHuts$SyntaxException" ∧ (wrd s 8 [] p).2.1 = true ∧ sub hb h' ∧ h' pa = some (psE sb (nI (wrd s 8 [] p).1)) ∧ h' q = some (syE (nI (wrd s 8 [] p).1)) ∧ gB g ≤ q) := by
  refine KT.of (by decide +kernel) htr (Nat.le_of_ble_eq_true rfl) (L0 := [some (.ref pa), none, none]) rfl ?_
  intro M cx hl9 hq hin hnx
  have hR1 : rm_X12_word.cells = 180 := rfl
  have hR2 : rm_X12_word.slots = 22500 := rfl
  refine AW.hk fun hk9 => ?_
  have hcon := hk9.2.1 0 (by omega)
  refine a_ldcS cx (cx.hG.str (t := 0) (by decide +kernel)) dX12_word_0 ?_
  refine a_astore_n cx dX12_word_2 (Nat.le_of_ble_eq_true rfl) rfl ?_
  have loop : ∀ (m : Nat) (l : List Nat) (p1 w wb : Nat) (hs9 hz9 : Int32) (h1 : AH), m + l.length = 8 → TRI l → p1 = p + l.length → sub hb h1 → h1 pa = some (psE sb (nI p1)) → h1 w = some (eO 15 [.ref wb, .int 0, .int hs9, .int hz9]) → h1 wb = some (eI (g.2.1 1) l.length (sCh l)) → ((hs9 = 0 ∧ hz9 = 0 ∧ gB g ≤ w) ∨ (hs9 = shash l ∧ hz9 = zf l)) → ((hs9 = shash l ∧ hz9 = zf l) ∨ hb w = none) → wrd s m l p1 = wrd s 8 [] p → AW g M (20 * l.length) (2500 * l.length) 3 [some (.ref pa), some (.ref w), none] [] h1 := by
    intro m
    induction m with
    | zero => intro l p1 w wb hs9 hz9 h1 a1 a2; have := a2.len; omega
    | succ m ih =>
      intro l p1 w wb hs9 hz9 h1 a1 a2 a3 hs1 hpa1 hw1 hwb1 hh hbw hrec
      have hl6 := a2.len
      have hasl := a2.asc
      refine a_aload_n cx dX12_word_3 rfl ?_
      refine c_S cx (f6_numbers cx.htr hw1 hwb1 hasl hh) (lw_S q1790 q1791 q101 q1792) dn_X6_numbers (RN.of rfl rfl rfl rfl) rfl rfl (Nat.le_of_ble_eq_true rfl) dX12_word_4 (by omega) (by omega) (pK ?_) (fun E9 q9 h9 hx9 => hx9.elim)
      obtain ⟨h2, eh2⟩ : ∃ z, z = hset h1 w (eO 15 [.ref wb, .int 0, .int (shash l), .int (zf l)]) := ⟨_, rfl⟩
      rw [← eh2]
      have hs2 : sub hb h2 := by
        rw [eh2]
        rcases hbw with ⟨y1, y2⟩ | y
        · rw [hset_same (by rw [hw1, y1, y2])]; exact hs1
        · exact hs1.set y
      have hpa2 : h2 pa = some (psE sb (nI p1)) := by rw [eh2]; exact (hset_n (fun z => by rw [z, hw1] at hpa1; cases hpa1)).trans hpa1
      have hw2 : h2 w = some (eO 15 [.ref wb, .int 0, .int (shash l), .int (zf l)]) := by rw [eh2]; exact hset_s _ _ _
      have hwb2 : h2 wb = some (eI (g.2.1 1) l.length (sCh l)) := by rw [eh2]; exact (hset_n (fun z => by rw [z, hw1] at hwb1; cases hwb1)).trans hwb1
      have hS2 := hS.sub hs2
      refine a_iconst cx (v := -1) dX12_word_7 (by decide) ?_
      refine a_icmp_ne cx (tgt := 97) dX12_word_8 (by decide) (fun c8 => ?_) (fun c8 => ?_)
      · have hz : wrd s 8 [] p = (p1, false, l) := by rw [← hrec, wrd, if_neg c8]
        refine a_aload_n cx dX12_word_97 rfl ?_
        exact a_aret cx hq dX12_word_98 (Or.inl ⟨_, rfl⟩) ⟨w, wb, rfl, by rw [hz], by rw [hz]; exact a2, by rw [hz]; exact a3, hs2, by rw [hz]; exact hpa2, by rw [hz]; exact hw2, by rw [hz]; exact hwb2⟩ (by omega) (by omega)
      · refine AW.hk fun hk8 => ?_
        refine a_aload_n cx dX12_word_11 rfl ?_
        refine a_get cx fl_X12_15.g dX12_word_12 hpa2 (by exact rfl) ?_
        refine a_aload_n cx dX12_word_15 rfl ?_
        refine a_get cx fl_X12_9.g dX12_word_16 hpa2 (by exact rfl) ?_
        refine c_F cx (j5_length cx.htr hS2.1) (lw_F q1795 q1803 q965 q84 q966) (by decide +kernel) ⟨by decide, by decide, by decide +kernel⟩ (RN.of rfl rfl rfl rfl) rfl hS2.1 rfl rfl rfl (Nat.le_of_ble_eq_true rfl) dX12_word_19 (by omega) (by omega) (pK ?_) (fun E9 q9 h9 hx9 => hx9.elim)
        refine a_icmp_ge cx (tgt := 60) dX12_word_24 (by decide) (fun c24 => ?_) (fun c24 => ?_)
        · have d24 : ¬ p1 < s.length := fun z => absurd (le_nI c24 (by omega) (by omega)) (by omega)
          have hz : wrd s 8 [] p = (p1, true, l) := by rw [← hrec, wrd, if_pos c8, if_neg (fun z => d24 z.1)]
          have hpa4 := hpa2
          have hs4 := hs2
          refine a_ldcS cx (cx.hG.str (t := 1) (by decide +kernel)) dX12_word_60 ?_
          refine a_astore_n cx dX12_word_62 (Nat.le_of_ble_eq_true rfl) rfl ?_
          refine a_aload_n cx dX12_word_63 rfl ?_
          refine c_S cx (f6_begins (s := [45]) cx.htr (hk8.2.str (t := 1) (by omega)) (asc_ltr 1 (by omega)) (by decide)) (lw_S q1830 q1831 q101 q1832) dn_X6_begins (RN.of rfl rfl rfl rfl) rfl rfl (Nat.le_of_ble_eq_true rfl) dX12_word_64 (by omega) (by omega) (pK ?_) (fun E9 q9 h9 hx9 => hx9.elim)
          refine a_if_ne cx (tgt := 82) dX12_word_67 (by decide) (fun c67 => absurd c67 (by decide +kernel)) (fun c67 => ?_)
          refine a_new cx nl_X12_37 dX12_word_70 (by omega) (by omega) (fun q n70 hB70 => ?_)
          have hqp : pa ≠ q := fun z => by rw [z, n70] at hpa4; cases hpa4
          refine a_dup cx dX12_word_73 rfl ?_
          refine a_aload_n cx dX12_word_74 rfl ?_
          refine a_get cx fl_X12_15.g dX12_word_75 ((hset_n hqp).trans hpa4) (by exact rfl) ?_
          refine c_I cx (f13_init cx.htr (hset_s _ _ _) hB70) (lw_meth q1888) q117 q1886 q1887 rfl dn_X13_init (RN.of rfl rfl rfl rfl) rfl rfl (Nat.le_of_ble_eq_true rfl) dX12_word_78 (by omega) (by omega) (pV ?_) (fun E9 q9 h9 hx9 => hx9.elim)
          rw [hset_hset]
          exact a_athrow cx dX12_word_81 (hset_s _ _ _) rfl (AX.out cx hq hnx ⟨rfl, by rw [hz], hs4.set (hs4.none n70), by rw [hz]; exact (hset_n hqp).trans hpa4, by rw [hz]; exact hset_s _ _ _, hB70⟩ (by omega) (by omega))
        · have d24 : p1 < s.length := nle_nI c24 (by omega) (by omega)
          refine a_new cx nl_X12_54 dX12_word_27 (by omega) (by omega) (fun sb2 n27 hB27 => ?_)
          refine a_dup cx dX12_word_30 rfl ?_
          refine c_I cx (j5_init cx.htr (hset_s _ _ _)) (lw_meth q215) q84 q1807 q214 rfl dn_J5_init (RN.of rfl rfl rfl rfl) rfl rfl (Nat.le_of_ble_eq_true rfl) dX12_word_31 (by omega) (by omega) (fun v9 h hp9 => ?_) (fun E9 q9 h9 hx9 => hx9.elim)
          obtain ⟨bb0, rfl, nbb, hBbb, rfl⟩ := hp9
          have hU0 := SB.new (hset_s _ _ _) nbb hBbb
          have nu0 : h2 bb0 = none := (sub.new n27).none nbb
          have hu0 := ((sub.new n27 (e := eO 14 [.null, .int 0, .int 0, .int 0])).set nu0 (e := eI (g.2.1 1) 16 (fun _ => 0))).set n27 (e := eO 14 [.ref bb0, .int 0, .int 0, .int 0])
          have hTl : StrAt g h2 w l := StrAt.of hw2 hwb2
          refine a_aload_n cx dX12_word_34 rfl ?_
          refine c_V cx (j5_append (tx := l) cx.htr hU0 (hTl.up hu0) (by show 0 + _ ≤ 64; omega)) (lw_V q1808 q814 q815 q84 q816) dn_J5_append (RN.of rfl rfl rfl rfl) rfl hU0.1 rfl rfl rfl (Nat.le_of_ble_eq_true rfl) dX12_word_35 (by omega) (by omega) (fun v9 h hp9 => ?_) (fun E9 q9 h9 hx9 => hx9.elim)
          obtain ⟨rfl, hA1⟩ := hp9
          obtain ⟨bb1, cp1, hU1, hu1, nu1, -⟩ := hA1.fresh hu0 n27 nu0
          have hpa3 := hu1 _ _ hpa2
          have hS3 := hS2.sub hu1
          refine a_aload_n cx dX12_word_38 rfl ?_
          refine a_get cx fl_X12_9.g dX12_word_39 hpa3 (by exact rfl) ?_
          refine a_aload_n cx dX12_word_42 rfl ?_
          refine a_get cx fl_X12_15.g dX12_word_43 hpa3 (by exact rfl) ?_
          refine c_F (na := 1) cx (j5_charAt cx.htr hS3 has_ d24) (lw_F q1810 q1816 q1818 q84 q1820) (by decide +kernel) ⟨by decide, by decide, by decide +kernel⟩ (RN.of rfl rfl rfl rfl) rfl hS3.1 rfl rfl rfl (Nat.le_of_ble_eq_true rfl) dX12_word_46 (by omega) (by omega) (pK ?_) (fun E9 q9 h9 hx9 => hx9.elim)
          refine c_V cx (j5_append_3 (c := s.getD p1 0) cx.htr hU1 has_.at (by rw [List.length_append]; show 0 + l.length < 64; omega)) (lw_V q1827 q1621 q1622 q84 q1623) dn_J5_append_3 (RN.of rfl rfl rfl rfl) rfl hU1.1 rfl rfl rfl (Nat.le_of_ble_eq_true rfl) dX12_word_51 (by omega) (by omega) (fun v9 h hp9 => ?_) (fun E9 q9 h9 hx9 => hx9.elim)
          obtain ⟨rfl, hA2⟩ := hp9
          obtain ⟨bb2, cp2, hU2, hu2, nu2, -⟩ := hA2.fresh hu1 n27 nu1
          have e51 : [] ++ l ++ [s.getD p1 0] = l ++ [s.getD p1 0] := rfl
          rw [e51] at hU2
          refine c_V cx (j5_toString cx.htr hU2) (lw_V q1828 q944 q945 q84 q946) dn_J5_toString (RN.of rfl rfl rfl rfl) rfl hU2.1 rfl rfl rfl (Nat.le_of_ble_eq_true rfl) dX12_word_54 (by omega) (by omega) (fun v9 h hp9 => ?_) (fun E9 q9 h9 hx9 => hx9.elim)
          obtain ⟨w2, rfl, nw2, hQ2, hx2⟩ := hp9
          have hu3 := hu2.tr hx2
          have hs4 := hs2.tr hu3
          have hpa4 := hu3 _ _ hpa2
          have hnw : hb w2 = none := (hs2.tr hu2).none nw2
          obtain ⟨wb2, q1, q2, q3, q4⟩ := id hQ2
          refine a_goto cx (tgt := 62) dX12_word_57 (by decide) ?_
          refine a_astore_n cx dX12_word_62 (Nat.le_of_ble_eq_true rfl) rfl ?_
          refine a_aload_n cx dX12_word_63 rfl ?_
          refine c_S cx (f6_begins (s := l ++ [s.getD p1 0]) cx.htr hQ2.str ⟨by rw [List.length_append]; show l.length + 1 < _; omega, fun c hc => (List.mem_append.mp hc).elim (hasl.2 c) (fun z => by rw [List.mem_singleton] at z; rw [z]; exact has_.at)⟩ (by rw [List.length_append]; show l.length + 1 ≤ 20; omega)) (lw_S q1830 q1831 q101 q1832) dn_X6_begins (RN.of rfl rfl rfl rfl) rfl rfl (Nat.le_of_ble_eq_true rfl) dX12_word_64 (by omega) (by omega) (pK ?_) (fun E9 q9 h9 hx9 => hx9.elim)
          rw [has_B]
          refine a_if_ne cx (tgt := 82) dX12_word_67 (by decide) (fun c67 => ?_) (fun c67 => ?_)
          · have hhas := bI_n0 c67
            have htr2 := a2.up c8 has_.at hhas
            have hrec2 : wrd s m (l ++ [s.getD p1 0]) (p1 + 1) = wrd s 8 [] p := by rw [← hrec, wrd, if_pos c8, if_pos ⟨d24, hhas⟩]
            have hm2 : m + (l ++ [s.getD p1 0]).length = 8 := by rw [List.length_append, List.length_singleton]; omega
            have hp2 : p1 + 1 = p + (l ++ [s.getD p1 0]).length := by rw [List.length_append, List.length_singleton]; omega
            refine a_aload_n cx dX12_word_82 rfl ?_
            refine a_astore_n cx dX12_word_83 (Nat.le_of_ble_eq_true rfl) rfl ?_
            refine a_aload_n cx dX12_word_84 rfl ?_
            refine a_dup cx dX12_word_85 rfl ?_
            refine a_get cx fl_X12_15.g dX12_word_86 hpa4 (by exact rfl) ?_
            refine a_iconst cx (v := 1) dX12_word_89 (by decide) ?_
            refine a_iadd cx dX12_word_90 ?_
            refine AW.topi (nI_1 _) ?_
            refine a_put cx fl_X12_15 dX12_word_91 hpa4 rfl rfl (by exact (Nat.le_of_ble_eq_true rfl)) ?_
            have hs6 := hs4.set npa (e := psE sb (nI (p1 + 1)))
            have hw6 := (hset_n (e := psE sb (nI (p1 + 1))) (show w2 ≠ pa from fun z => by rw [z, hpa4] at q1; cases q1)).trans q1
            have hwb6 := (hset_n (e := psE sb (nI (p1 + 1))) (show wb2 ≠ pa from fun z => by rw [z, hpa4] at q2; cases q2)).trans q2
            have hBw6 := q3
            have hbw6 := hnw
            refine a_goto cx (tgt := 3) dX12_word_94 (by decide) ?_
            refine AW.widen ?_ ?_ (AW.loc ?_ (ih _ _ _ _ _ _ _ hm2 htr2 hp2 hs6 (hset_s _ _ _) hw6 hwb6 (Or.inl ⟨rfl, rfl, hBw6⟩) (Or.inr hbw6) hrec2))
            · rw [List.length_append, List.length_singleton]; omega
            · rw [List.length_append, List.length_singleton]; omega
            · exact ⟨rfl, rfl, trivial⟩
          · have hz : wrd s 8 [] p = (p1, true, l) := by rw [← hrec, wrd, if_pos c8, if_neg (fun z => by rw [(bI_0 _).mp c67] at z; cases z.2)]
            refine a_new cx nl_X12_37 dX12_word_70 (by omega) (by omega) (fun q n70 hB70 => ?_)
            have hqp : pa ≠ q := fun z => by rw [z, n70] at hpa4; cases hpa4
            refine a_dup cx dX12_word_73 rfl ?_
            refine a_aload_n cx dX12_word_74 rfl ?_
            refine a_get cx fl_X12_15.g dX12_word_75 ((hset_n hqp).trans hpa4) (by exact rfl) ?_
            refine c_I cx (f13_init cx.htr (hset_s _ _ _) hB70) (lw_meth q1888) q117 q1886 q1887 rfl dn_X13_init (RN.of rfl rfl rfl rfl) rfl rfl (Nat.le_of_ble_eq_true rfl) dX12_word_78 (by omega) (by omega) (pV ?_) (fun E9 q9 h9 hx9 => hx9.elim)
            rw [hset_hset]
            exact a_athrow cx dX12_word_81 (hset_s _ _ _) rfl (AX.out cx hq hnx ⟨rfl, by rw [hz], hs4.set (hs4.none n70), by rw [hz]; exact (hset_n hqp).trans hpa4, by rw [hz]; exact hset_s _ _ _, hB70⟩ (by omega) (by omega))
  exact loop 8 [] p (gs g 10) (gs g 40) _ _ _ rfl TRI.nil (Nat.add_zero _).symm hs hpa hcon.1 hcon.2 (Or.inr ⟨rfl, by decide +kernel⟩) (Or.inl ⟨rfl, by decide +kernel⟩) rfl
