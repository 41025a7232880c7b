/-! THE FIELD, told -/
set_option maxRecDepth 100000
theorem APP.fresh {g : GP} {h0 h h' : AH} {a b : Nat} {s : List Nat} (hs : sub h0 h) (na : h0 a = none) (nb : h0 b = none) (hA : APP g h a b s h') : ∃ b' cap', SB g h' a b' cap' s ∧ sub h0 h' ∧ h0 b' = none ∧ ∀ q e, h q = some e → q ≠ a → q ≠ b → h' q = some e := by
  obtain ⟨b', cap', h1, h2, h3⟩ := hA
  refine ⟨b', cap', h1, fun q e hq => h3 q e (hs q e hq) (fun z => by rw [z, na] at hq; cases hq) (fun z => by rw [z, nb] at hq; cases hq), ?_, h3⟩
  rcases h2 with z | z
  · rw [z]; exact nb
  · exact hs.none z
theorem SB.off {g : GP} {h : AH} {a b cap q : Nat} {s : List Nat} {e0 e : va_E} (hS : SB g h a b cap s) (hq : h q = some e0) (h1 : e0 ≠ eO 14 [.ref b, .int 0, .int 0, .int (nI s.length)]) (h2 : ∀ f, e0 ≠ eI (g.2.1 1) cap f) : SB g (hset h q e) a b cap s ∧ q ≠ a ∧ q ≠ b := by
  obtain ⟨ha, ⟨f, hb, hf⟩, h3⟩ := hS
  have n1 : q ≠ a := fun z => by rw [z, ha] at hq; exact h1 (Option.some.inj hq).symm
  have n2 : q ≠ b := fun z => by rw [z, hb] at hq; exact h2 f (Option.some.inj hq).symm
  exact ⟨⟨(hset_n (Ne.symm n1)).trans ha, ⟨f, (hset_n (Ne.symm n2)).trans hb, hf⟩, h3⟩, n1, n2⟩
def hutN (s : SF) (j : Nat) : List Nat := ([40] ++ dgN (oN (s (81 + j))) ++ [44] ++ dgN (oN (s (87 + j)))) ++ [41]
def memN (s : SF) (j : Nat) : Nat → List Nat
  | 0 => []
  | k + 1 => memN s j k ++ (if s (63 + k) = nI j then (if cnt s (nI j) k = 0 then 58 else 44) :: dgN k else [])
def linN (s : SF) : Nat → List Nat
  | 0 => []
  | k + 1 => linN s k ++ [if s (63 + k) = -1 then 45 else 48 + oN (s (63 + k))]
theorem dgN_map (v : Nat) : (dgN v).map nI = dgt v := by unfold dgN dgt; split <;> rfl
theorem hutN_map (s : SF) (j : Nat) : (hutN s j).map nI = hutL s j := by
  unfold hutN hutL
  simp only [List.map_append, dgN_map, List.map_cons, List.map_nil, List.cons_append, List.nil_append, List.append_assoc]
  rfl
theorem memN_map (s : SF) (j : Nat) : ∀ k, (memN s j k).map nI = mem s j k := by
  intro k
  induction k with
  | zero => rfl
  | succ k ih =>
    rw [memN, mem, List.map_append, ih]
    by_cases h : s (63 + k) = nI j
    · rw [if_pos h, if_pos h, List.map_cons, dgN_map]
      by_cases h2 : cnt s (nI j) k = 0
      · rw [if_pos h2, if_pos h2]; rfl
      · rw [if_neg h2, if_neg h2]; rfl
    · rw [if_neg h, if_neg h]; rfl
theorem linN_map {s : SF} {n : Nat} (hW : ∀ k, k < n → isO (s (63 + k)) (nH s)) (hm : nH s ≤ 6) : ∀ k, k ≤ n → (linN s k).map nI = lin s k := by
  intro k
  induction k with
  | zero => intro _; rfl
  | succ k ih =>
    intro hk
    rw [linN, lin, List.map_append, ih (by omega)]
    rcases hW k (by omega) with h | ⟨j, hj, h⟩
    · rw [if_pos h, if_pos h]; rfl
    · rw [if_neg (by rw [h]; exact ne_m1 (by omega)), if_neg (by rw [h]; exact ne_m1 (by omega)), h, oN_nI (by omega)]
      show _ ++ [nI (48 + j)] = _ ++ [nI 48 + nI j]
      rw [nI_add]
theorem memN_len (s : SF) (j k : Nat) : (memN s j k).length ≤ 3 * k := by
  have h := congrArg List.length (memN_map s j k)
  rw [List.length_map] at h
  rw [h]; exact mem_len s j k
theorem hutN_len (s : SF) (j : Nat) : (hutN s j).length ≤ 7 := by
  have h := congrArg List.length (hutN_map s j)
  rw [List.length_map] at h
  rw [h]; exact hutL_len s j
theorem linN_len (s : SF) : ∀ k, (linN s k).length = k := by
  intro k
  induction k with
  | zero => rfl
  | succ k ih => rw [linN, List.length_append, ih]; rfl
theorem dgN_lt {v : Nat} (h : v < 100) : ∀ c, c ∈ dgN v → c < 128 := by
  intro c hc
  unfold dgN at hc
  rcases List.mem_append.mp hc with hc | hc
  · split at hc
    · rw [List.mem_singleton] at hc; omega
    · cases hc
  · rw [List.mem_singleton] at hc; omega
theorem memN_lt {s : SF} {j : Nat} : ∀ {k : Nat}, k ≤ 18 → ∀ c, c ∈ memN s j k → c < 128 := by
  intro k
  induction k with
  | zero => intro _ c hc; cases hc
  | succ k ih =>
    intro hk c hc
    rcases List.mem_append.mp hc with hc | hc
    · exact ih (by omega) c hc
    · split at hc
      · rcases List.mem_cons.mp hc with hc | hc
        · split at hc <;> omega
        · exact dgN_lt (by omega) c hc
      · cases hc
theorem hutN_lt {s : SF} {j : Nat} (h1 : oN (s (81 + j)) < 100) (h2 : oN (s (87 + j)) < 100) : ∀ c, c ∈ hutN s j → c < 128 := by
  intro c hc
  unfold hutN at hc
  simp only [List.mem_append, List.mem_singleton] at hc
  rcases hc with (((hc | hc) | hc) | hc) | hc
  · omega
  · exact dgN_lt h1 c hc
  · omega
  · exact dgN_lt h2 c hc
  · omega
theorem linN_lt {s : SF} {n : Nat} (hW : ∀ k, k < n → isO (s (63 + k)) (nH s)) (hm : nH s ≤ 6) : ∀ k, k ≤ n → ∀ c, c ∈ linN s k → c < 128 := by
  intro k
  induction k with
  | zero => intro _ c hc; cases hc
  | succ k ih =>
    intro hk c hc
    rcases List.mem_append.mp hc with hc | hc
    · exact ih (by omega) c hc
    · rw [List.mem_singleton] at hc
      rcases hW k (by omega) with h | ⟨j, hj, h⟩
      · rw [if_pos h] at hc; omega
      · rw [if_neg (by rw [h]; exact ne_m1 (by omega)), h, oN_nI (by omega)] at hc; omega
theorem dgN_le (v : Nat) : (dgN v).length ≤ 2 := by rw [dgN_len]; split <;> omega
abbrev rm_X2_told_2 : Room := { frames := 16, cells := 60, slots := 9000, locals := 440 }
set_option maxHeartbeats 4000000 in
theorem f2_told_2 {lx : Launch} {g : GP} {h : AH} (htr : lx.stackTraces = false) {hb : AH} {f a ea ca b eb cb d : Nat} {ma mb : Int32} {ls lh : List Nat} {s : SF} (hF : FA g hb h f s a ea ma ca b eb mb cb d ls lh) (hWF : WF s) {j : Nat} (hj : j < nH s) : KT lx g yX2_told_2 (ws_ yX2_told_2 cX2_told_2 8 (some (.object "java/lang/String"))) rm_X2_told_2 60 9000 [.ref f, .int (nI j)] h (fun v h' => ∃ q, v = some (.ref q) ∧ h q = none ∧ StrN g h h' q (hutN s j ++ memN s j (nS s)) ∧ sub h h') (noX) := by
  refine KT.of (by decide +kernel) htr (Nat.le_of_ble_eq_true rfl) (L0 := [some (.ref f), some (.int (nI j)), none, none, none, none, none, none]) rfl ?_
  intro M cx hl9 hq hin hnx
  have hR1 : rm_X2_told_2.cells = 60 := rfl
  have hR2 : rm_X2_told_2.slots = 9000 := rfl
  obtain ⟨hO, rfl⟩ : ∃ z, z = h := ⟨_, rfl⟩
  refine AW.hk fun hk9 => ?_
  have hS := hWF.1
  have hP := hWF.2.2
  have hn := hS.2.1
  have hm := hS.2.2.2
  obtain ⟨⟨xa, hxa, ex⟩, ⟨ya, hya, ey⟩⟩ := hP.2 j hj
  have hdx := dgN_le xa
  have hdy := dgN_le ya
  have hhl := hutN_len s j
  refine a_aload_n cx dX2_told_2_0 rfl ?_
  refine a_get cx fl_X2_18.g dX2_told_2_1 hF.o (by exact rfl) ?_
  refine a_iload_n cx dX2_told_2_4 rfl ?_
  refine c_V cx (j2_get (i := j) cx.htr hF.lb (by rw [hF.nh]; exact hj)) (lw_V q639 q426 q427 q81 q428) dn_J2_get (RN.of rfl rfl rfl rfl) rfl hF.lb.1 rfl rfl rfl (Nat.le_of_ble_eq_true rfl) dX2_told_2_5 (by omega) (by omega) (pK ?_) (fun E9 q9 h9 hx9 => hx9.elim)
  refine a_castS (r := (RX5, TX5, 2)) cx q563 dX2_told_2_8 (hF.hu hj) rfl ?_
  refine a_astore_n cx dX2_told_2_11 (Nat.le_of_ble_eq_true rfl) rfl ?_
  refine a_new cx nl_X2_245 dX2_told_2_12 (by omega) (by omega) (fun sb n12 hB12 => ?_)
  refine a_dup cx dX2_told_2_15 rfl ?_
  refine c_I cx (j5_init cx.htr (hset_s _ _ _)) (lw_meth q215) q84 q810 q214 rfl dn_J5_init (RN.of rfl rfl rfl rfl) rfl rfl (Nat.le_of_ble_eq_true rfl) dX2_told_2_16 (by omega) (by omega) (fun v9 h hp9 => ?_) (fun E9 q9 h9 hx9 => hx9.elim)
  obtain ⟨bb0, rfl, nbb, hBbb, rfl⟩ := hp9
  have hS0 := SB.new (hset_s _ _ _) nbb hBbb
  have nb0 : hO bb0 = none := (sub.new n12).none nbb
  have hs0 := ((sub.new n12 (e := eO 14 [.null, .int 0, .int 0, .int 0])).set nb0 (e := eI (g.2.1 1) 16 (fun _ => 0))).set n12 (e := eO 14 [.ref bb0, .int 0, .int 0, .int 0])
  refine a_astore_n cx dX2_told_2_19 (Nat.le_of_ble_eq_true rfl) rfl ?_
  refine a_aload_n cx dX2_told_2_20 rfl ?_
  refine a_bipush cx (v := 40) dX2_told_2_21 (by decide) ?_
  refine c_V cx (j5_append_3 (c := 40) cx.htr hS0 (by omega) (by simp only [List.length_append, List.length_cons, List.length_nil]; omega)) (lw_V q1620 q1621 q1622 q84 q1623) dn_J5_append_3 (RN.of rfl rfl rfl rfl) rfl hS0.1 rfl rfl rfl (Nat.le_of_ble_eq_true rfl) dX2_told_2_23 (by omega) (by omega) (fun v9 h hp9 => ?_) (fun E9 q9 h9 hx9 => hx9.elim)
  obtain ⟨rfl, hA1⟩ := hp9
  obtain ⟨bb1, cp1, hS1, hs1, nb1, -⟩ := hA1.fresh hs0 n12 nb0
  refine a_aload_n cx dX2_told_2_26 rfl ?_
  refine a_get cx fl_X2_213.g dX2_told_2_27 ((hF.up hs1).hu hj) (by exact rfl) ?_
  refine AW.topi ex ?_
  refine c_V cx (j5_append_2 (v := xa) cx.htr hS1 (by omega) (by simp only [List.length_append, List.length_cons, List.length_nil]; omega)) (lw_V q918 q919 q920 q84 q921) dn_J5_append_2 (RN.of rfl rfl rfl rfl) rfl hS1.1 rfl rfl rfl (Nat.le_of_ble_eq_true rfl) dX2_told_2_30 (by omega) (by omega) (fun v9 h hp9 => ?_) (fun E9 q9 h9 hx9 => hx9.elim)
  obtain ⟨rfl, hA2⟩ := hp9
  obtain ⟨bb2, cp2, hS2, hs2, nb2, -⟩ := hA2.fresh hs1 n12 nb1
  refine a_bipush cx (v := 44) dX2_told_2_33 (by decide) ?_
  refine c_V cx (j5_append_3 (c := 44) cx.htr hS2 (by omega) (by simp only [List.length_append, List.length_cons, List.length_nil]; omega)) (lw_V q1620 q1621 q1622 q84 q1623) dn_J5_append_3 (RN.of rfl rfl rfl rfl) rfl hS2.1 rfl rfl rfl (Nat.le_of_ble_eq_true rfl) dX2_told_2_35 (by omega) (by omega) (fun v9 h hp9 => ?_) (fun E9 q9 h9 hx9 => hx9.elim)
  obtain ⟨rfl, hA3⟩ := hp9
  obtain ⟨bb3, cp3, hS3, hs3, nb3, -⟩ := hA3.fresh hs2 n12 nb2
  refine a_aload_n cx dX2_told_2_38 rfl ?_
  refine a_get cx fl_X2_214.g dX2_told_2_39 ((hF.up hs3).hu hj) (by exact rfl) ?_
  refine AW.topi ey ?_
  refine c_V cx (j5_append_2 (v := ya) cx.htr hS3 (by omega) (by simp only [List.length_append, List.length_cons, List.length_nil]; omega)) (lw_V q918 q919 q920 q84 q921) dn_J5_append_2 (RN.of rfl rfl rfl rfl) rfl hS3.1 rfl rfl rfl (Nat.le_of_ble_eq_true rfl) dX2_told_2_42 (by omega) (by omega) (fun v9 h hp9 => ?_) (fun E9 q9 h9 hx9 => hx9.elim)
  obtain ⟨rfl, hA4⟩ := hp9
  obtain ⟨bb4, cp4, hS4, hs4, nb4, -⟩ := hA4.fresh hs3 n12 nb3
  refine a_bipush cx (v := 41) dX2_told_2_45 (by decide) ?_
  refine c_V cx (j5_append_3 (c := 41) cx.htr hS4 (by omega) (by simp only [List.length_append, List.length_cons, List.length_nil]; omega)) (lw_V q1620 q1621 q1622 q84 q1623) dn_J5_append_3 (RN.of rfl rfl rfl rfl) rfl hS4.1 rfl rfl rfl (Nat.le_of_ble_eq_true rfl) dX2_told_2_47 (by omega) (by omega) (fun v9 h hp9 => ?_) (fun E9 q9 h9 hx9 => hx9.elim)
  obtain ⟨rfl, hA5⟩ := hp9
  obtain ⟨bb5, cp5, hS5, hs5, nb5, -⟩ := hA5.fresh hs4 n12 nb4
  have e5 : [] ++ [40] ++ dgN xa ++ [44] ++ dgN ya ++ [41] = hutN s j := by unfold hutN; rw [ex, ey, oN_nI (by omega), oN_nI (by omega)]; rfl
  rw [e5] at hS5
  refine a_astore cx dX2_told_2_50 (Nat.le_of_ble_eq_true rfl) rfl ?_
  refine a_bipush cx (v := 58) dX2_told_2_52 (by decide) ?_
  refine a_istore cx dX2_told_2_54 (Nat.le_of_ble_eq_true rfl) rfl ?_
  refine a_aload_n cx dX2_told_2_56 rfl ?_
  refine a_iload_n cx dX2_told_2_57 rfl ?_
  refine c_V cx (f2_flock (f := f) (u := nI j) cx.htr) (lw_V q659 q660 q661 q78 q662) dn_X2_flock (RN.of rfl rfl rfl rfl) rfl (hF.up hs5).o rfl rfl rfl (Nat.le_of_ble_eq_true rfl) dX2_told_2_58 (by omega) (by omega) (fun v9 h hp9 => ?_) (fun E9 q9 h9 hx9 => hx9.elim)
  obtain ⟨fl, rfl, nf, hBf, rfl⟩ := hp9
  have hs6 := hs5.tr (sub.new nf (e := flE (nI j) f))
  have hS6 := hS5.sub (sub.new nf (e := flE (nI j) f))
  refine c_V cx (f10_iterator cx.htr (hF.up hs6) hn (hset_s _ _ _)) (lw_V q1640 q683 q684 q110 q685) dn_X10_iterator (RN.of rfl rfl rfl rfl) rfl (hset_s _ _ _) rfl rfl rfl (Nat.le_of_ble_eq_true rfl) dX2_told_2_61 (by omega) (by omega) (fun v9 h hp9 => ?_) (fun E9 q9 h9 hx9 => hx9.elim)
  obtain ⟨it, p0, rfl, nit, hBit, hx0, rfl⟩ := hp9
  have hs7 := hs6.tr (sub.new nit (e := fiE (nI p0) fl))
  have hS7 := hS6.sub (sub.new nit (e := fiE (nI p0) fl))
  have hfl7 := (sub.new nit (e := fiE (nI p0) fl)) _ _ (hset_s _ fl _)
  have hnit : hO it = none := hs6.none nit
  refine a_astore cx dX2_told_2_64 (Nat.le_of_ble_eq_true rfl) rfl ?_
  have loop : ∀ (j0 p : Nat) (h3 : AH) (b3 c3 : Nat), p ≤ nS s → nS s < p + j0 → (p < nS s → s (63 + p) = nI j) → sub hO h3 → h3 it = some (fiE (nI p) fl) → h3 fl = some (flE (nI j) f) → SB g h3 sb b3 c3 (hutN s j ++ memN s j p) → hO b3 = none → AW g M (15 + 2 * p) (1100 + 400 * p) 66 [some (.ref f), some (.int (nI j)), some (.ref (lh.getD j 0)), some (.ref sb), some (.ref sb), some (.int (nI (if cnt s (nI j) p = 0 then 58 else 44))), some (.ref it), none] [] h3 := by
    intro j0
    induction j0 with
    | zero => intro p h3 b3 c3 b1 b2; omega
    | succ j0 ih =>
      intro p h3 b3 c3 z1 z2 hd hs hit hfl hS nb3
      have hF3 := hF.up hs
      have hml := memN_len s j p
      refine a_aload cx dX2_told_2_66 rfl ?_
      refine c_F cx (f11_hasNext cx.htr hF3 hn hfl hit z1) (lw_F q322 q326 q328 q111 q330) (by decide +kernel) ⟨by decide, by decide, by decide +kernel⟩ (RN.of rfl rfl rfl rfl) rfl hit rfl rfl rfl (Nat.le_of_ble_eq_true rfl) dX2_told_2_68 (by omega) (by omega) (pK ?_) (fun E9 q9 h9 hx9 => hx9.elim)
      refine a_if_eq cx (tgt := 115) dX2_told_2_73 (by decide) (fun c73 => ?_) (fun c73 => ?_)
      · have d0 : p = nS s := by have q := of_decide_eq_false ((bI_0 _).mp c73); omega
        subst d0
        refine a_aload_n cx dX2_told_2_115 rfl ?_
        refine c_V cx (j5_toString_n cx.htr hS) (lw_V q943 q944 q945 q84 q946) dn_J5_toString (RN.of rfl rfl rfl rfl) rfl hS.1 rfl rfl rfl (Nat.le_of_ble_eq_true rfl) dX2_told_2_116 (by omega) (by omega) (fun v9 h hp9 => ?_) (fun E9 q9 h9 hx9 => hx9.elim)
        obtain ⟨q9, rfl, nq9, hF9, hx9⟩ := hp9
        exact a_aret cx hq dX2_told_2_119 (Or.inl ⟨_, rfl⟩) ⟨q9, rfl, hs.none nq9, (by obtain ⟨b9, z1, z2⟩ := hF9; exact ⟨b9, hs.none z1, z2⟩), hs.tr hx9⟩ (by omega) (by omega)
      · have d0 : p < nS s := of_decide_eq_true (bI_n0 c73)
        have hu := hd d0
        refine a_aload cx dX2_told_2_76 rfl ?_
        refine c_F cx (f11_next cx.htr hF3 hn hfl hit d0) (lw_F q339 q342 q344 q111 q346) (by decide +kernel) ⟨by decide, by decide, by decide +kernel⟩ (RN.of rfl rfl rfl rfl) rfl hit rfl rfl rfl (Nat.le_of_ble_eq_true rfl) dX2_told_2_78 (by omega) (by omega) (fun v9 h hp9 => ?_) (fun E9 q9 h9 hx9 => hx9.elim)
        obtain ⟨p', rfl, hx, rfl⟩ := hp9
        obtain ⟨hS8, nit1, nit2⟩ := hS.off (e := fiE (nI p') fl) hit nofun nofun
        obtain ⟨h4, eh4⟩ : ∃ z, z = hset h3 it (fiE (nI p') fl) := ⟨_, rfl⟩
        rw [← eh4]
        rw [← eh4] at hS8
        have hs4 : sub hO h4 := by rw [eh4]; exact hs.set hnit
        have hit4 : h4 it = some (fiE (nI p') fl) := by rw [eh4]; exact hset_s _ _ _
        have hfl4 : h4 fl = some (flE (nI j) f) := by rw [eh4]; exact (hset_n (fun z => by rw [z, hit] at hfl; cases hfl)).trans hfl
        have hF4 := hF.up hs4
        have hsh := hF4.sh d0
        refine a_castS (r := (RX4, TX4, 4)) cx q456 dX2_told_2_83 hsh rfl ?_
        refine a_astore cx dX2_told_2_86 (Nat.le_of_ble_eq_true rfl) rfl ?_
        refine a_aload_n cx dX2_told_2_88 rfl ?_
        refine a_iload cx dX2_told_2_89 rfl ?_
        refine c_V cx (j5_append_3 (c := if cnt s (nI j) p = 0 then 58 else 44) cx.htr hS8 (by split <;> omega) (by rw [List.length_append]; omega)) (lw_V q1620 q1621 q1622 q84 q1623) dn_J5_append_3 (RN.of rfl rfl rfl rfl) rfl hS8.1 rfl rfl rfl (Nat.le_of_ble_eq_true rfl) dX2_told_2_91 (by omega) (by omega) (fun v9 h hp9 => ?_) (fun E9 q9 h9 hx9 => hx9.elim)
        obtain ⟨rfl, hA8⟩ := hp9
        obtain ⟨bb8, cp8, hS8b, hs8, nb8, hfr8⟩ := hA8.fresh hs4 n12 nb3
        have hit8 := hfr8 _ _ hit4 nit1 nit2
        have hfl8 := hfr8 _ _ hfl4 (fun z => by rw [z, hS8.1] at hfl4; cases hfl4) (fun z => by obtain ⟨-, ⟨fq, hq9, -⟩, -⟩ := hS8; rw [z, hq9] at hfl4; cases hfl4)
        have hF8 := hF.up hs8
        refine a_aload_n cx dX2_told_2_94 rfl ?_
        refine a_get cx fl_X2_12.g dX2_told_2_95 hF8.o (by exact rfl) ?_
        refine a_aload cx dX2_told_2_98 rfl ?_
        refine c_V cx (j2_indexOf cx.htr hF8.la (hF8.sh d0)) (lw_V q1324 q1325 q1326 q81 q1327) dn_J2_indexOf (RN.of rfl rfl rfl rfl) rfl hF8.la.1 rfl rfl rfl (Nat.le_of_ble_eq_true rfl) dX2_told_2_100 (by omega) (by omega) (pK ?_) (fun E9 q9 h9 hx9 => hx9.elim)
        refine AW.topi (show _ = nI p by rw [fi_nodup hF.ds (by rw [hF.nl]; exact d0)]; rfl) ?_
        refine c_V cx (j5_append_2 (v := p) cx.htr hS8b (by omega) (by have := dgN_le p; rw [List.length_append, List.length_append]; show _ + 1 + _ ≤ 64; omega)) (lw_V q918 q919 q920 q84 q921) dn_J5_append_2 (RN.of rfl rfl rfl rfl) rfl hS8b.1 rfl rfl rfl (Nat.le_of_ble_eq_true rfl) dX2_told_2_103 (by omega) (by omega) (fun v9 h hp9 => ?_) (fun E9 q9 h9 hx9 => hx9.elim)
        obtain ⟨rfl, hA9⟩ := hp9
        obtain ⟨bb9, cp9, hS9, hs9, nb9, hfr9⟩ := hA9.fresh hs8 n12 nb8
        have hit9 := hfr9 _ _ hit8 (fun z => by rw [z, hS8b.1] at hit8; cases hit8) (fun z => by obtain ⟨-, ⟨fq, hq9, -⟩, -⟩ := hS8b; rw [z, hq9] at hit8; cases hit8)
        have hfl9 := hfr9 _ _ hfl8 (fun z => by rw [z, hS8b.1] at hfl8; cases hfl8) (fun z => by obtain ⟨-, ⟨fq, hq9, -⟩, -⟩ := hS8b; rw [z, hq9] at hfl8; cases hfl8)
        refine a_astore cx dX2_told_2_106 (Nat.le_of_ble_eq_true rfl) rfl ?_
        refine a_bipush cx (v := 44) dX2_told_2_108 (by decide) ?_
        refine a_istore cx dX2_told_2_110 (Nat.le_of_ble_eq_true rfl) rfl ?_
        refine a_goto cx (tgt := 66) dX2_told_2_112 (by decide) ?_
        have e1 : cnt s (nI j) p' = cnt s (nI j) p + 1 := (hx.skip (F := cnt s (nI j)) (fun k hk => by rw [cnt, if_neg hk, Nat.add_zero])).trans (by rw [cnt, if_pos hu])
        have e2 : memN s j p' = memN s j p ++ (if cnt s (nI j) p = 0 then 58 else 44) :: dgN p := (hx.skip (F := memN s j) (fun k hk => by rw [memN, if_neg hk, List.append_nil])).trans (by rw [memN, if_pos hu])
        have e3 : hutN s j ++ memN s j p ++ [if cnt s (nI j) p = 0 then 58 else 44] ++ dgN p = hutN s j ++ memN s j p' := by rw [e2]; simp only [List.append_assoc, List.cons_append, List.nil_append]
        rw [e3] at hS9
        have hgo := ih p' _ bb9 cp9 hx.2.1 (by have := hx.1; omega) hx.2.2.1 hs9 hit9 hfl9 hS9 nb9
        rw [e1, if_neg (by omega)] at hgo
        refine AW.widen ?_ ?_ (AW.loc ?_ hgo)
        · have := hx.1; omega
        · have := hx.1; omega
        · exact ⟨rfl, rfl, rfl, rfl, rfl, rfl, rfl, trivial⟩
  have hgo := loop (nS s + 1) p0 _ bb5 cp5 hx0.2.1 (by omega) hx0.2.2.1 hs7 (hset_s _ _ _) hfl7 (by rw [hx0.skip (F := memN s j) (fun k hk => by rw [memN, if_neg hk, List.append_nil])]; show SB g _ sb bb5 cp5 (hutN s j ++ []); rw [List.append_nil]; exact hS7) nb5
  rw [hx0.skip (F := cnt s (nI j)) (fun k hk => by rw [cnt, if_neg hk, Nat.add_zero])] at hgo
  exact AW.widen (by omega) (by omega) (AW.loc (show lle [some (.ref f), some (.int (nI j)), some (.ref (lh.getD j 0)), some (.ref sb), some (.ref sb), some (.int (nI 58)), some (.ref it), none] _ from ⟨rfl, rfl, rfl, rfl, rfl, rfl, rfl, trivial⟩) hgo)
