/-! THE MODEL: stillness, acts -/
set_option maxRecDepth 100000
abbrev scr : List Nat := [6, 10, 11]
theorem SX.rf (σ : MS) : SX σ σ (σ.2 1) scr := ⟨rfl, rfl, fun _ _ _ => rfl⟩
theorem SX.s {σ τ : MS} {s t : SF} {l : List Nat} (h : SX σ τ s l) : SX σ (ma τ 1 t) t l := ⟨h.1, ma_at _ _ _, fun i h1 h2 => by rw [ma_ne h1]; exact h.2.2 i h1 h2⟩
theorem SX.w {σ τ : MS} {s : SF} (h : SX σ τ s [10, 11]) : SX σ τ s scr := ⟨h.1, h.2.1, fun i h1 h2 => h.2.2 i h1 (fun q => h2 (List.mem_cons_of_mem _ q))⟩
theorem SX.t {σ τ υ : MS} {s t : SF} {l : List Nat} (h : SX σ τ s l) (h' : SX τ υ t l) : SX σ υ t l := ⟨h'.1.trans h.1, h'.2.1, fun i h1 h2 => (h'.2.2 i h1 h2).trans (h.2.2 i h1 h2)⟩
/-- what an act has done: code, answer or detail, the row -/
def AR (σ σ' : MS) (A : Act) : Prop := σ'.2 1 = A.2.2 ∧ (∀ i, i ≠ 1 → i ∉ scr → σ'.2 i = σ.2 i) ∧ (∀ k, k ≠ 9 → k ≠ 10 → σ'.1 k = σ.1 k) ∧ (A.1 = 0 → σ'.1 10 = A.2.1) ∧ (0 < A.1 → σ'.1 9 = A.2.1)
theorem AR.thr {σ : MS} {A : Act} {r u : Int32} (hA : A = (r, u, σ.2 1)) (hr : r < 0) : AR σ σ A := by
  subst hA
  refine ⟨rfl, fun _ _ _ => rfl, fun _ _ _ => rfl, fun h => ?_, fun h => ?_⟩
  · have h1 : r = 0 := h
    rw [h1] at hr
    exact absurd hr (by decide)
  · have h1 : (0 : Int32) < r := h
    exact absurd h1 (Int32.not_lt.mpr (Int32.le_of_lt hr))
theorem AR.ref {σ τ : MS} {A : Act} {r u : Int32} {s : SF} (h : SX σ τ s scr) (hA : A = (r, u, s)) (hr : 0 < r) : AR σ (mv τ 9 u) A := by
  subst hA
  refine ⟨h.2.1, h.2.2, fun k h9 _ => (mv_ne h9).trans (by rw [h.1]), fun h0 => ?_, fun _ => mv_at _ _ _⟩
  have h1 : r = 0 := h0
  rw [h1] at hr
  exact absurd hr (by decide)
theorem AR.done {σ τ : MS} {A : Act} {u : Int32} {s : SF} (h : SX σ τ s scr) (hA : A = (0, u, s)) : AR σ (mv τ 10 u) A := by
  subst hA
  exact ⟨h.2.1, h.2.2, fun k _ h10 => (mv_ne h10).trans (by rw [h.1]), fun _ => mv_at _ _ _, fun h0 => absurd h0 (by show ¬ (0 : Int32) < 0; decide)⟩
def sameB (s t : SF) (b : Bool) (k : Nat) : Bool := b && sameOf s t k
theorem sameB_s (s t : SF) (b : Bool) (k : Nat) : sameB s t b (k + 1) = (sameB s t b k && t (63 + k) == s (63 + k)) := by unfold sameB; rw [sameOf, Bool.and_assoc]
theorem SX.row {σ τ : MS} {s : SF} {l : List Nat} (h : SX σ τ s l) : τ.2 1 = s := h.2.1
abbrev rm_X3_isStillNow : Room := { frames := 5, cells := 0, slots := 0, locals := 113 }
set_option maxHeartbeats 4000000 in
theorem k3_isStillNow {l : Launch} {g : GP} {ad : Nat → Nat} {σ : MS} (htr : l.stackTraces = false) (hf : WF (σ.2 1)) : MK l g ad yX3_isStillNow cX3_isStillNow 3 (some .boolean) rm_X3_isStillNow σ [] (fun v σ' => v = some (.int (bI (still (σ.2 1)))) ∧ SX σ σ' (σ.2 1) scr) := by
  refine MK.of (by decide +kernel) htr (Nat.le_of_ble_eq_true rfl) (L0 := [some (.ref (ad 0)), none, none]) rfl ?_
  intro M h0 h cx _ hq hm
  obtain ⟨hw1, hw2, hw3, hw4⟩ := hf.1
  refine a_aload_n cx dX3_isStillNow_0 rfl ?_
  refine a_get cx fl_X3_7.g dX3_isStillNow_1 hm.o rfl ?_
  refine a_iconst cx (v := 1) dX3_isStillNow_4 (by decide) ?_
  refine a_iald cx dX3_isStillNow_5 hm.a1 (show (1 : Int32) = nI 1 from rfl) (by omega) (by decide) ?_
  refine AW.topi hw3 ?_
  refine a_if_ne cx (tgt := 11) dX3_isStillNow_6 (by decide) (fun c6 => ?_) (fun c6 => ?_)
  · have hh : nH (σ.2 1) ≠ 0 := fun q => c6 (by rw [q]; rfl)
    have hst : still (σ.2 1) = sameB (σ.2 1) (ground (σ.2 1)) (mvd (σ.2 1) (ground (σ.2 1)) (nH (σ.2 1)) == 0) 18 := by unfold still sameB; rw [show (nH (σ.2 1) == 0) = false from by simpa using hh]; try rfl
    refine a_iconst cx (v := 0) dX3_isStillNow_11 (by decide) ?_
    refine a_istore_n cx dX3_isStillNow_12 (Nat.le_of_ble_eq_true rfl) rfl ?_
    have loop : ∀ (j k : Nat) (h : AH), k ≤ 93 → 93 < k + j → MSt g ad h0 (ma σ 6 (cpf (σ.2 6) (σ.2 1) k)) h → AW g M 0 0 13 [some (.ref (ad 0)), some (.int (nI k)), none] [] h := by
      intro j
      induction j with
      | zero => intro k h h1 h2; omega
      | succ j ih =>
        intro k h h1 h2 hm
        refine a_iload_n cx dX3_isStillNow_13 rfl ?_
        refine a_bipush cx (v := 93) dX3_isStillNow_14 (by decide) ?_
        refine a_icmp_ge cx (tgt := 37) dX3_isStillNow_16 (by decide) (fun c16 => ?_) (fun c16 => ?_)
        · have d16 := le_nI (a := 93) c16 (by omega) (by omega)
          have e16 : k = 93 := by omega
          subst e16
          refine a_aload_n cx dX3_isStillNow_37 rfl ?_
          refine m_call cx (k3_goesRound cx.htr (show WF ((ma σ 6 (cpf (σ.2 6) (σ.2 1) 93)).2 1) from hf)) (lw_V q2201 q2203 qs53 q87 q2204) dn_X3_goesRound (RN.of rfl rfl rfl rfl) rfl hm rfl rfl (Nat.le_of_ble_eq_true rfl) dX3_isStillNow_38 (Nat.zero_le _) (Nat.zero_le _) (fun v9 τ h hp hm => ?_)
          obtain ⟨rfl, hx⟩ := hp
          have t1 : τ.2 1 = ground (σ.2 1) := hx.2.1
          have t6 : τ.2 6 = cpf (σ.2 6) (σ.2 1) 93 := (hx.2.2 6 (by decide) (by decide)).trans (ma_at _ _ _)
          have tx : SX σ τ (ground (σ.2 1)) scr := ⟨hx.1, t1, fun i h1 h2 => (hx.2.2 i h1 (fun q => h2 (List.mem_cons_of_mem _ q))).trans (ma_ne (fun q => h2 (by rw [q]; decide)))⟩
          have J : ∀ (b : Bool), (mvd (σ.2 1) (ground (σ.2 1)) (nH (σ.2 1)) == 0) = b → AW g M 0 0 49 [some (.ref (ad 0)), none, none] [.int (bI b)] h := by
            intro b eb
            refine a_istore_n cx dX3_isStillNow_49 (Nat.le_of_ble_eq_true rfl) rfl ?_
            refine a_iconst cx (v := 0) dX3_isStillNow_50 (by decide) ?_
            refine a_istore_n cx dX3_isStillNow_51 (Nat.le_of_ble_eq_true rfl) rfl ?_
            have loop2 : ∀ (j k : Nat), k ≤ 18 → 18 < k + j → AW g M 0 0 52 [some (.ref (ad 0)), some (.int (bI (sameB (σ.2 1) (ground (σ.2 1)) b k))), some (.int (nI k))] [] h := by
              intro j
              induction j with
              | zero => intro k h1 h2; omega
              | succ j ih2 =>
                intro k h1 h2
                refine a_iload_n cx dX3_isStillNow_52 rfl ?_
                refine a_bipush cx (v := 18) dX3_isStillNow_53 (by decide) ?_
                refine a_icmp_ge cx (tgt := 95) dX3_isStillNow_55 (by decide) (fun c55 => ?_) (fun c55 => ?_)
                · have d55 := le_nI (a := 18) c55 (by omega) (by omega)
                  have e55 : k = 18 := by omega
                  subst e55
                  refine a_iconst cx (v := 0) dX3_isStillNow_95 (by decide) ?_
                  refine a_istore_n cx dX3_isStillNow_96 (Nat.le_of_ble_eq_true rfl) rfl ?_
                  have loop3 : ∀ (j k : Nat) (h : AH), k ≤ 93 → 93 < k + j → MSt g ad h0 (ma τ 1 (cpf (ground (σ.2 1)) (σ.2 1) k)) h → AW g M 0 0 97 [some (.ref (ad 0)), some (.int (bI (sameB (σ.2 1) (ground (σ.2 1)) b 18))), some (.int (nI k))] [] h := by
                    intro j
                    induction j with
                    | zero => intro k h h1 h2; omega
                    | succ j ih3 =>
                      intro k h h1 h2 hm
                      refine a_iload_n cx dX3_isStillNow_97 rfl ?_
                      refine a_bipush cx (v := 93) dX3_isStillNow_98 (by decide) ?_
                      refine a_icmp_ge cx (tgt := 121) dX3_isStillNow_100 (by decide) (fun c100 => ?_) (fun c100 => ?_)
                      · have d100 := le_nI (a := 93) c100 (by omega) (by omega)
                        have e100 : k = 93 := by omega
                        subst e100
                        refine m_norm cx 0 (by decide) (f := σ.2 1) hm (fun j hj => cpf_lt hj) (fun h hm => ?_)
                        replace hm := hm.eq (ma_ma _ _ _ _)
                        refine a_iload_n cx dX3_isStillNow_121 rfl ?_
                        exact a_zret cx hq dX3_isStillNow_122 (narrow_bI _) ⟨_, ⟨by rw [hst, ← eb]; try rfl, tx.s⟩, hm⟩ (Nat.zero_le _) (Nat.zero_le _)
                      · have d100 := nle_nI (a := 93) c100 (by omega) (by omega)
                        refine a_aload_n cx dX3_isStillNow_103 rfl ?_
                        refine a_get cx fl_X3_7.g dX3_isStillNow_104 hm.o rfl ?_
                        refine a_iload_n cx dX3_isStillNow_107 rfl ?_
                        refine a_aload_n cx dX3_isStillNow_108 rfl ?_
                        refine a_get cx fl_X3_25.g dX3_isStillNow_109 hm.o rfl ?_
                        refine a_iload_n cx dX3_isStillNow_112 rfl ?_
                        refine a_iald cx dX3_isStillNow_113 hm.a6 rfl (by omega) (by decide) ?_
                        refine AW.topi (show τ.2 6 k = (σ.2 1) k by rw [t6, cpf_lt (by omega)]) ?_
                        refine m_iast cx (i := 0) (by decide) dX3_isStillNow_114 hm rfl (show _ < 93 from by omega) (fun h hm => ?_)
                        refine a_iincN cx dX3_isStillNow_115 rfl (Nat.le_of_ble_eq_true rfl) rfl ?_
                        refine a_goto cx (tgt := 97) dX3_isStillNow_118 (by decide) ?_
                        exact ih3 (k + 1) h (by omega) (by omega) (hm.eq (by rw [ma_ma]; exact congrArg _ (cpf_s _ _ k)))
                  exact loop3 94 0 h (by omega) (by omega) (hm.eq (by rw [cpf_0, ← t1, ma_self]))
                · have d55 := nle_nI (a := 18) c55 (by omega) (by omega)
                  refine a_iload_n cx dX3_isStillNow_58 rfl ?_
                  have K9 : ∀ (z : Int32), z = bI (sameB (σ.2 1) (ground (σ.2 1)) b (k + 1)) → AW g M 0 0 88 [some (.ref (ad 0)), some (.int (bI (sameB (σ.2 1) (ground (σ.2 1)) b k))), some (.int (nI k))] [.int z] h := by
                    intro z ez
                    subst ez
                    refine a_istore_n cx dX3_isStillNow_88 (Nat.le_of_ble_eq_true rfl) rfl ?_
                    refine a_iincN cx dX3_isStillNow_89 rfl (Nat.le_of_ble_eq_true rfl) rfl ?_
                    refine a_goto cx (tgt := 52) dX3_isStillNow_92 (by decide) ?_
                    exact ih2 (k + 1) (by omega) (by omega)
                  refine a_if_eq cx (tgt := 87) dX3_isStillNow_59 (by decide) (fun c59 => ?_) (fun c59 => ?_)
                  · have r9 : (0 : Int32) = bI (sameB (σ.2 1) (ground (σ.2 1)) b (k + 1)) := by rw [sameB_s, (bI_0 _).mp c59]; try rfl
                    refine a_iconst cx (v := 0) dX3_isStillNow_87 (by decide) ?_
                    exact K9 _ r9
                  · have hb9 := bI_n0 c59
                    refine a_aload_n cx dX3_isStillNow_62 rfl ?_
                    refine a_get cx fl_X3_7.g dX3_isStillNow_63 hm.o rfl ?_
                    refine a_bipush cx (v := 63) dX3_isStillNow_66 (by decide) ?_
                    refine a_iload_n cx dX3_isStillNow_68 rfl ?_
                    refine a_iadd cx dX3_isStillNow_69 ?_
                    refine a_iald cx dX3_isStillNow_70 hm.a1 (ix3 _) (by omega) (by decide) ?_
                    refine AW.topi (show τ.2 1 (63 + k) = ground (σ.2 1) (63 + k) by rw [t1]) ?_
                    refine a_aload_n cx dX3_isStillNow_71 rfl ?_
                    refine a_get cx fl_X3_25.g dX3_isStillNow_72 hm.o rfl ?_
                    refine a_bipush cx (v := 63) dX3_isStillNow_75 (by decide) ?_
                    refine a_iload_n cx dX3_isStillNow_77 rfl ?_
                    refine a_iadd cx dX3_isStillNow_78 ?_
                    refine a_iald cx dX3_isStillNow_79 hm.a6 (ix3 _) (by omega) (by decide) ?_
                    refine AW.topi (show τ.2 6 (63 + k) = (σ.2 1) (63 + k) by rw [t6, cpf_lt (by omega)]) ?_
                    refine a_icmp_ne cx (tgt := 87) dX3_isStillNow_80 (by decide) (fun c80 => ?_) (fun c80 => ?_)
                    · have r9 : (0 : Int32) = bI (sameB (σ.2 1) (ground (σ.2 1)) b (k + 1)) := by rw [sameB_s, show (ground (σ.2 1) (63 + k) == (σ.2 1) (63 + k)) = false from by simpa using c80, Bool.and_false]; try rfl
                      refine a_iconst cx (v := 0) dX3_isStillNow_87 (by decide) ?_
                      exact K9 _ r9
                    · have r9 : (1 : Int32) = bI (sameB (σ.2 1) (ground (σ.2 1)) b (k + 1)) := by rw [sameB_s, hb9, show (ground (σ.2 1) (63 + k) == (σ.2 1) (63 + k)) = true from by simpa using c80]; rfl
                      refine a_iconst cx (v := 1) dX3_isStillNow_83 (by decide) ?_
                      refine a_goto cx (tgt := 88) dX3_isStillNow_84 (by decide) ?_
                      exact K9 _ r9
            have q9 := loop2 19 0 (by omega) (by omega)
            rw [show sameB (σ.2 1) (ground (σ.2 1)) b 0 = b from Bool.and_true b] at q9
            exact q9
          refine a_if_ne cx (tgt := 48) dX3_isStillNow_41 (by decide) (fun c41 => ?_) (fun c41 => ?_)
          · have r : (mvd (σ.2 1) (ground (σ.2 1)) (nH (σ.2 1)) == 0) = false := by
              rw [beq_eq_false_iff_ne]
              exact fun q => c41 (by show nI (mvd (σ.2 1) (ground (σ.2 1)) (nH (σ.2 1))) = 0; rw [q]; rfl)
            refine a_iconst cx (v := 0) dX3_isStillNow_48 (by decide) ?_
            exact (J _ r).loc (by exact ⟨rfl, trivial⟩)
          · have r : (mvd (σ.2 1) (ground (σ.2 1)) (nH (σ.2 1)) == 0) = true := by
              rw [beq_iff_eq]
              have := mvd_le (σ.2 1) (ground (σ.2 1)) (nH (σ.2 1))
              exact nI_inj (by omega) (by decide) c41
            refine a_iconst cx (v := 1) dX3_isStillNow_44 (by decide) ?_
            refine a_goto cx (tgt := 49) dX3_isStillNow_45 (by decide) ?_
            exact (J _ r).loc (by exact ⟨rfl, trivial⟩)
        · have d16 := nle_nI (a := 93) c16 (by omega) (by omega)
          refine a_aload_n cx dX3_isStillNow_19 rfl ?_
          refine a_get cx fl_X3_25.g dX3_isStillNow_20 hm.o rfl ?_
          refine a_iload_n cx dX3_isStillNow_23 rfl ?_
          refine a_aload_n cx dX3_isStillNow_24 rfl ?_
          refine a_get cx fl_X3_7.g dX3_isStillNow_25 hm.o rfl ?_
          refine a_iload_n cx dX3_isStillNow_28 rfl ?_
          refine a_iald cx dX3_isStillNow_29 hm.a1 rfl (by omega) (by decide) ?_
          refine m_iast cx (i := 5) (by decide) dX3_isStillNow_30 hm rfl (show _ < 93 from by omega) (fun h hm => ?_)
          refine a_iincN cx dX3_isStillNow_31 rfl (Nat.le_of_ble_eq_true rfl) rfl ?_
          refine a_goto cx (tgt := 13) dX3_isStillNow_34 (by decide) ?_
          exact ih (k + 1) h (by omega) (by omega) (hm.eq (by rw [ma_ma]; exact congrArg _ (cpf_s _ _ k)))
    exact loop (93 + 1) 0 h (by omega) (by omega) (hm.eq (by rw [cpf_0, ma_self]))
  · have hh : nH (σ.2 1) = 0 := nI_inj (by omega) (by decide) c6
    have r : still (σ.2 1) = true := by unfold still; rw [hh]; rfl
    refine a_iconst cx (v := 1) dX3_isStillNow_9 (by decide) ?_
    exact a_zret cx hq dX3_isStillNow_10 rfl ⟨_, ⟨by rw [r]; rfl, SX.rf _⟩, hm⟩ (Nat.zero_le _) (Nat.zero_le _)
abbrev rm_X3_hutAt : Room := { frames := 0, cells := 0, slots := 0, locals := 0 }
set_option maxHeartbeats 4000000 in
theorem k3_hutAt {l : Launch} {g : GP} {ad : Nat → Nat} {σ : MS} (htr : l.stackTraces = false) {x y : Int32} (hw : WS (σ.2 1)) : MKi l g ad yX3_hutAt cX3_hutAt 4 (some .int) rm_X3_hutAt σ [.int x, .int y] (oI (hutAt (σ.2 1) x y)) (σ) := by
  refine MK.of (by decide +kernel) htr (Nat.le_of_ble_eq_true rfl) (L0 := [some (.ref (ad 0)), some (.int x), some (.int y), none]) rfl ?_
  intro M h0 h cx _ hq hm
  obtain ⟨hw1, hw2, hw3, hw4⟩ := hw
  refine a_iconst cx (v := 0) dX3_hutAt_0 (by decide) ?_
  refine a_istore_n cx dX3_hutAt_1 (Nat.le_of_ble_eq_true rfl) rfl ?_
  have loop : ∀ (j k : Nat) (h : AH), k ≤ nH (σ.2 1) → nH (σ.2 1) < k + j → hAt (σ.2 1) x y k = none → MSt g ad h0 (σ) h → AW g M 0 0 2 [some (.ref (ad 0)), some (.int x), some (.int y), some (.int (nI k))] [] h := by
    intro j
    induction j with
    | zero => intro k h h1 h2; omega
    | succ j ih =>
      intro k h h1 h2 hx hm
      refine a_iload_n cx dX3_hutAt_2 rfl ?_
      refine a_aload_n cx dX3_hutAt_3 rfl ?_
      refine a_get cx fl_X3_7.g dX3_hutAt_4 hm.o rfl ?_
      refine a_iconst cx (v := 1) dX3_hutAt_7 (by decide) ?_
      refine a_iald cx dX3_hutAt_8 hm.a1 (show (1 : Int32) = nI 1 from rfl) (by omega) (by decide) ?_
      refine AW.topi hw3 ?_
      refine a_icmp_ge cx (tgt := 46) dX3_hutAt_9 (by decide) (fun c9 => ?_) (fun c9 => ?_)
      · have d9 := le_nI c9 (by omega) (by omega)
        have e9 : k = nH (σ.2 1) := by omega
        subst e9
        refine a_iconst cx (v := -1) dX3_hutAt_46 (by decide) ?_
        exact a_iret cx hq dX3_hutAt_47 ⟨_, ⟨by unfold hutAt; rw [hx]; rfl, rfl⟩, hm⟩ (Nat.zero_le _) (Nat.zero_le _)
      · have d9 := nle_nI c9 (by omega) (by omega)
        refine a_aload_n cx dX3_hutAt_12 rfl ?_
        refine a_get cx fl_X3_7.g dX3_hutAt_13 hm.o rfl ?_
        refine a_bipush cx (v := 81) dX3_hutAt_16 (by decide) ?_
        refine a_iload_n cx dX3_hutAt_18 rfl ?_
        refine a_iadd cx dX3_hutAt_19 ?_
        refine a_iald cx dX3_hutAt_20 hm.a1 (ix4 _) (by omega) (by decide) ?_
        refine a_iload_n cx dX3_hutAt_21 rfl ?_
        refine a_icmp_ne cx (tgt := 40) dX3_hutAt_22 (by decide) (fun c22 => ?_) (fun c22 => ?_)
        · have r : hAt (σ.2 1) x y (k + 1) = none := by rw [hAt, hx]; exact if_neg (fun q => c22 q.1)
          refine a_iincN cx dX3_hutAt_40 rfl (Nat.le_of_ble_eq_true rfl) rfl ?_
          refine a_goto cx (tgt := 2) dX3_hutAt_43 (by decide) ?_
          exact ih (k + 1) h (by omega) (by omega) r hm
        · refine a_aload_n cx dX3_hutAt_25 rfl ?_
          refine a_get cx fl_X3_7.g dX3_hutAt_26 hm.o rfl ?_
          refine a_bipush cx (v := 87) dX3_hutAt_29 (by decide) ?_
          refine a_iload_n cx dX3_hutAt_31 rfl ?_
          refine a_iadd cx dX3_hutAt_32 ?_
          refine a_iald cx dX3_hutAt_33 hm.a1 (ix5 _) (by omega) (by decide) ?_
          refine a_iload_n cx dX3_hutAt_34 rfl ?_
          refine a_icmp_ne cx (tgt := 40) dX3_hutAt_35 (by decide) (fun c35 => ?_) (fun c35 => ?_)
          · have r : hAt (σ.2 1) x y (k + 1) = none := by rw [hAt, hx]; exact if_neg (fun q => c35 q.2)
            refine a_iincN cx dX3_hutAt_40 rfl (Nat.le_of_ble_eq_true rfl) rfl ?_
            refine a_goto cx (tgt := 2) dX3_hutAt_43 (by decide) ?_
            exact ih (k + 1) h (by omega) (by omega) r hm
          · have r : hAt (σ.2 1) x y (k + 1) = some k := by rw [hAt, hx]; exact if_pos ⟨c22, c35⟩
            have r2 : hutAt (σ.2 1) x y = some k := hAt_up r _ d9
            refine a_iload_n cx dX3_hutAt_38 rfl ?_
            exact a_iret cx hq dX3_hutAt_39 ⟨_, ⟨by rw [r2]; rfl, rfl⟩, hm⟩ (Nat.zero_le _) (Nat.zero_le _)
  exact loop (nH (σ.2 1) + 1 - 0) 0 h (by omega) (by omega) rfl hm
abbrev rm_X3_comes : Room := { frames := 3, cells := 0, slots := 0, locals := 67 }
set_option maxHeartbeats 4000000 in
theorem k3_comes {l : Launch} {g : GP} {ad : Nat → Nat} {σ : MS} (htr : l.stackTraces = false) {x y w : Int32} (hw : WS (σ.2 1)) : MK l g ad yX3_comes cX3_comes 5 (some .int) rm_X3_comes σ [.int x, .int y, .int w] (fun v σ' => v = some (.int (comesA (σ.2 1) x y w).1) ∧ AR σ σ' (comesA (σ.2 1) x y w)) := by
  refine MK.of (by decide +kernel) htr (Nat.le_of_ble_eq_true rfl) (L0 := [some (.ref (ad 0)), some (.int x), some (.int y), some (.int w), none]) rfl ?_
  intro M h0 h cx _ hq hm
  obtain ⟨hw1, hw2, hw3, hw4⟩ := id hw
  refine a_iload_n cx dX3_comes_0 rfl ?_
  refine a_iload_n cx dX3_comes_1 rfl ?_
  refine s_calli cx (k3_isPlace cx.htr) (lw_S q2064 q2065 q87 q2066) dn_X3_isPlace (RN.of rfl rfl rfl rfl) rfl rfl (Nat.le_of_ble_eq_true rfl) dX3_comes_2 (Nat.zero_le _) (Nat.zero_le _) ?_
  refine a_if_eq cx (tgt := 18) dX3_comes_5 (by decide) (fun c5 => ?_) (fun c5 => ?_)
  · have eA : comesA (σ.2 1) x y w = (-1, 0, σ.2 1) := if_neg (fun q => by have h9 := (bI_0 _).mp c5; rw [q.1, q.2.1] at h9; cases h9)
    refine a_iconst cx (v := -1) dX3_comes_18 (by decide) ?_
    exact a_iret cx hq dX3_comes_19 ⟨_, ⟨by rw [eA], AR.thr eA (by decide)⟩, hm⟩ (Nat.zero_le _) (Nat.zero_le _)
  · have p1 := bI_n0 c5
    rw [Bool.and_eq_true] at p1
    refine a_iload_n cx dX3_comes_8 rfl ?_
    refine a_iconst cx (v := 1) dX3_comes_9 (by decide) ?_
    refine a_bipush cx (v := 9) dX3_comes_10 (by decide) ?_
    refine s_calli cx (k3_in cx.htr) (lw_S q2067 q2068 q87 q2069) dn_X3_in (RN.of rfl rfl rfl rfl) rfl rfl (Nat.le_of_ble_eq_true rfl) dX3_comes_12 (Nat.zero_le _) (Nat.zero_le _) ?_
    refine a_if_ne cx (tgt := 20) dX3_comes_15 (by decide) (fun c15 => ?_) (fun c15 => ?_)
    · have p2 := bI_n0 c15
      have eA : comesA (σ.2 1) x y w = (if nS (σ.2 1) = 18 then ((1 : Int32), (18 : Int32), σ.2 1) else (0, nI (nS (σ.2 1)), comesS (σ.2 1) x y w)) := if_pos ⟨p1.1, p1.2, p2⟩
      refine a_aload_n cx dX3_comes_20 rfl ?_
      refine a_get cx fl_X3_7.g dX3_comes_21 hm.o rfl ?_
      refine a_iconst cx (v := 0) dX3_comes_24 (by decide) ?_
      refine a_iald cx dX3_comes_25 hm.a1 (show (0 : Int32) = nI 0 from rfl) (by omega) (by decide) ?_
      refine AW.topi hw1 ?_
      refine a_istore cx dX3_comes_26 (Nat.le_of_ble_eq_true rfl) rfl ?_
      refine a_iload cx dX3_comes_28 rfl ?_
      refine a_bipush cx (v := 18) dX3_comes_30 (by decide) ?_
      refine a_icmp_ne cx (tgt := 43) dX3_comes_32 (by decide) (fun c32 => ?_) (fun c32 => ?_)
      · have hn : nS (σ.2 1) ≠ 18 := fun q => c32 (by rw [q]; rfl)
        rw [if_neg hn] at eA
        refine a_aload_n cx dX3_comes_43 rfl ?_
        refine a_get cx fl_X3_7.g dX3_comes_44 hm.o rfl ?_
        refine a_bipush cx (v := 9) dX3_comes_47 (by decide) ?_
        refine a_iload cx dX3_comes_49 rfl ?_
        refine a_iadd cx dX3_comes_51 ?_
        refine a_iload_n cx dX3_comes_52 rfl ?_
        refine m_iast cx (i := 0) (by decide) dX3_comes_53 hm (ix0 _) (show _ < 93 from by omega) (fun h hm => ?_)
        refine a_aload_n cx dX3_comes_54 rfl ?_
        refine a_get cx fl_X3_7.g dX3_comes_55 hm.o rfl ?_
        refine a_bipush cx (v := 27) dX3_comes_58 (by decide) ?_
        refine a_iload cx dX3_comes_60 rfl ?_
        refine a_iadd cx dX3_comes_62 ?_
        refine a_iload_n cx dX3_comes_63 rfl ?_
        refine m_iast cx (i := 0) (by decide) dX3_comes_64 hm (ix1 _) (show _ < 93 from by omega) (fun h hm => ?_)
        refine a_aload_n cx dX3_comes_65 rfl ?_
        refine a_get cx fl_X3_7.g dX3_comes_66 hm.o rfl ?_
        refine a_bipush cx (v := 45) dX3_comes_69 (by decide) ?_
        refine a_iload cx dX3_comes_71 rfl ?_
        refine a_iadd cx dX3_comes_73 ?_
        refine a_iload_n cx dX3_comes_74 rfl ?_
        refine m_iast cx (i := 0) (by decide) dX3_comes_75 hm (ix2 _) (show _ < 93 from by omega) (fun h hm => ?_)
        refine a_aload_n cx dX3_comes_76 rfl ?_
        refine a_get cx fl_X3_7.g dX3_comes_77 hm.o rfl ?_
        refine a_bipush cx (v := 63) dX3_comes_80 (by decide) ?_
        refine a_iload cx dX3_comes_82 rfl ?_
        try simp only [ma_at, ma_ma] at hm
        refine a_iadd cx dX3_comes_84 ?_
        refine a_aload_n cx dX3_comes_85 rfl ?_
        refine a_iload_n cx dX3_comes_86 rfl ?_
        refine a_iload_n cx dX3_comes_87 rfl ?_
        refine m_calli cx (k3_nearestTo (σ := ma σ 1 (upd (upd (upd (σ.2 1) (9 + nS (σ.2 1)) x) (27 + nS (σ.2 1)) y) (45 + nS (σ.2 1)) w)) cx.htr (WS_of hw (by rw [ma_at, upd_n (by omega), upd_n (by omega), upd_n (by omega)]) (by rw [ma_at, upd_n (by omega), upd_n (by omega), upd_n (by omega)]))) (lw_V q2074 q2076 qs30 q87 q2077) dn_X3_nearestTo (RN.of rfl rfl rfl rfl) rfl hm rfl rfl (Nat.le_of_ble_eq_true rfl) dX3_comes_88 (Nat.zero_le _) (Nat.zero_le _) (fun h hm => ?_)
        refine AW.topi (show oI (near _ x y) = oI (near (σ.2 1) x y) from congrArg oI (near_eq (s := σ.2 1) (t := upd (upd (upd (σ.2 1) (9 + nS (σ.2 1)) x) (27 + nS (σ.2 1)) y) (45 + nS (σ.2 1)) w) (by rw [upd_n (by omega), upd_n (by omega), upd_n (by omega)]) (fun q hq => by rw [upd_n (by omega), upd_n (by omega), upd_n (by omega)]) x y)) ?_
        refine m_iast cx (i := 0) (by decide) dX3_comes_91 hm (ix3 _) (show _ < 93 from by omega) (fun h hm => ?_)
        refine a_aload_n cx dX3_comes_92 rfl ?_
        refine a_get cx fl_X3_7.g dX3_comes_93 hm.o rfl ?_
        refine a_iconst cx (v := 0) dX3_comes_96 (by decide) ?_
        refine a_iload cx dX3_comes_97 rfl ?_
        refine a_iconst cx (v := 1) dX3_comes_99 (by decide) ?_
        refine a_iadd cx dX3_comes_100 ?_
        refine AW.topi (nI_1 _) ?_
        refine m_iast cx (i := 0) (by decide) dX3_comes_101 hm (show (0 : Int32) = nI 0 from rfl) (show _ < 93 from by omega) (fun h hm => ?_)
        try simp only [ma_at, ma_ma] at hm
        refine a_aload_n cx dX3_comes_102 rfl ?_
        refine a_iload cx dX3_comes_103 rfl ?_
        refine m_calli cx (k3_done cx.htr) (lw_V q2085 q2087 qs32 q87 q2088) dn_X3_done (RN.of rfl rfl rfl rfl) rfl hm rfl rfl (Nat.le_of_ble_eq_true rfl) dX3_comes_105 (Nat.zero_le _) (Nat.zero_le _) (fun h hm => ?_)
        exact a_iret cx hq dX3_comes_108 ⟨_, ⟨by rw [eA], AR.done ((SX.rf σ).s (t := comesS (σ.2 1) x y w)) eA⟩, hm⟩ (Nat.zero_le _) (Nat.zero_le _)
      · have hn : nS (σ.2 1) = 18 := nI_inj (by omega) (by decide) c32
        rw [if_pos hn] at eA
        refine a_aload_n cx dX3_comes_35 rfl ?_
        refine a_iconst cx (v := 1) dX3_comes_36 (by decide) ?_
        refine a_bipush cx (v := 18) dX3_comes_37 (by decide) ?_
        refine m_calli cx (k3_refused cx.htr) (lw_V q2070 q2072 qs29 q87 q2073) dn_X3_refused (RN.of rfl rfl rfl rfl) rfl hm rfl rfl (Nat.le_of_ble_eq_true rfl) dX3_comes_39 (Nat.zero_le _) (Nat.zero_le _) (fun h hm => ?_)
        exact a_iret cx hq dX3_comes_42 ⟨_, ⟨by rw [eA], AR.ref (SX.rf σ) eA (by decide)⟩, hm⟩ (Nat.zero_le _) (Nat.zero_le _)
    · have eA : comesA (σ.2 1) x y w = (-1, 0, σ.2 1) := if_neg (fun q => by have h9 := (bI_0 _).mp c15; rw [q.2.2] at h9; cases h9)
      refine a_iconst cx (v := -1) dX3_comes_18 (by decide) ?_
      exact a_iret cx hq dX3_comes_19 ⟨_, ⟨by rw [eA], AR.thr eA (by decide)⟩, hm⟩ (Nat.zero_le _) (Nat.zero_le _)
abbrev rm_X3_sets : Room := { frames := 2, cells := 0, slots := 0, locals := 43 }
set_option maxHeartbeats 4000000 in
theorem k3_sets {l : Launch} {g : GP} {ad : Nat → Nat} {σ : MS} (htr : l.stackTraces = false) {x y : Int32} (hw : WS (σ.2 1)) : MK l g ad yX3_sets cX3_sets 4 (some .int) rm_X3_sets σ [.int x, .int y] (fun v σ' => v = some (.int (setsA (σ.2 1) x y).1) ∧ AR σ σ' (setsA (σ.2 1) x y)) := by
  refine MK.of (by decide +kernel) htr (Nat.le_of_ble_eq_true rfl) (L0 := [some (.ref (ad 0)), some (.int x), some (.int y), none]) rfl ?_
  intro M h0 h cx _ hq hm
  obtain ⟨hw1, hw2, hw3, hw4⟩ := id hw
  refine a_iload_n cx dX3_sets_0 rfl ?_
  refine a_iload_n cx dX3_sets_1 rfl ?_
  refine s_calli cx (k3_isPlace cx.htr) (lw_S q2064 q2065 q87 q2066) dn_X3_isPlace (RN.of rfl rfl rfl rfl) rfl rfl (Nat.le_of_ble_eq_true rfl) dX3_sets_2 (Nat.zero_le _) (Nat.zero_le _) ?_
  refine a_if_ne cx (tgt := 10) dX3_sets_5 (by decide) (fun c5 => ?_) (fun c5 => ?_)
  · have p1 := bI_n0 c5
    rw [Bool.and_eq_true] at p1
    refine a_aload_n cx dX3_sets_10 rfl ?_
    refine a_iload_n cx dX3_sets_11 rfl ?_
    refine a_iload_n cx dX3_sets_12 rfl ?_
    refine m_calli cx (k3_hutAt cx.htr hw) (lw_V q2109 q2111 qs37 q87 q2112) dn_X3_hutAt (RN.of rfl rfl rfl rfl) rfl hm rfl rfl (Nat.le_of_ble_eq_true rfl) dX3_sets_13 (Nat.zero_le _) (Nat.zero_le _) (fun h hm => ?_)
    refine a_iconst cx (v := -1) dX3_sets_16 (by decide) ?_
    refine a_icmp_eq cx (tgt := 32) dX3_sets_17 (by decide) (fun c17 => ?_) (fun c17 => ?_)
    · have hj : hutAt (σ.2 1) x y = none := (oI_m1 (fun j hj => by have : j < nH (σ.2 1) := hAt_lt hj; omega)).mp c17
      have eA : setsA (σ.2 1) x y = (if nH (σ.2 1) = 6 then ((1 : Int32), (6 : Int32), σ.2 1) else (0, nI (nH (σ.2 1)), upd (upd (upd (σ.2 1) (81 + nH (σ.2 1)) x) (87 + nH (σ.2 1)) y) 1 (nI (nH (σ.2 1) + 1)))) := by rw [setsA, if_pos p1, hj]
      refine a_aload_n cx dX3_sets_32 rfl ?_
      refine a_get cx fl_X3_7.g dX3_sets_33 hm.o rfl ?_
      refine a_iconst cx (v := 1) dX3_sets_36 (by decide) ?_
      refine a_iald cx dX3_sets_37 hm.a1 (show (1 : Int32) = nI 1 from rfl) (by omega) (by decide) ?_
      refine AW.topi hw3 ?_
      refine a_istore_n cx dX3_sets_38 (Nat.le_of_ble_eq_true rfl) rfl ?_
      refine a_iload_n cx dX3_sets_39 rfl ?_
      refine a_bipush cx (v := 6) dX3_sets_40 (by decide) ?_
      refine a_icmp_ne cx (tgt := 53) dX3_sets_42 (by decide) (fun c42 => ?_) (fun c42 => ?_)
      · have hn : nH (σ.2 1) ≠ 6 := fun q => c42 (by rw [q]; rfl)
        rw [if_neg hn] at eA
        refine a_aload_n cx dX3_sets_53 rfl ?_
        refine a_get cx fl_X3_7.g dX3_sets_54 hm.o rfl ?_
        refine a_bipush cx (v := 81) dX3_sets_57 (by decide) ?_
        refine a_iload_n cx dX3_sets_59 rfl ?_
        refine a_iadd cx dX3_sets_60 ?_
        refine a_iload_n cx dX3_sets_61 rfl ?_
        refine m_iast cx (i := 0) (by decide) dX3_sets_62 hm (ix4 _) (show _ < 93 from by omega) (fun h hm => ?_)
        refine a_aload_n cx dX3_sets_63 rfl ?_
        refine a_get cx fl_X3_7.g dX3_sets_64 hm.o rfl ?_
        refine a_bipush cx (v := 87) dX3_sets_67 (by decide) ?_
        refine a_iload_n cx dX3_sets_69 rfl ?_
        refine a_iadd cx dX3_sets_70 ?_
        refine a_iload_n cx dX3_sets_71 rfl ?_
        refine m_iast cx (i := 0) (by decide) dX3_sets_72 hm (ix5 _) (show _ < 93 from by omega) (fun h hm => ?_)
        refine a_aload_n cx dX3_sets_73 rfl ?_
        refine a_get cx fl_X3_7.g dX3_sets_74 hm.o rfl ?_
        refine a_iconst cx (v := 1) dX3_sets_77 (by decide) ?_
        refine a_iload_n cx dX3_sets_78 rfl ?_
        refine a_iconst cx (v := 1) dX3_sets_79 (by decide) ?_
        refine a_iadd cx dX3_sets_80 ?_
        refine AW.topi (nI_1 _) ?_
        refine m_iast cx (i := 0) (by decide) dX3_sets_81 hm (show (1 : Int32) = nI 1 from rfl) (show _ < 93 from by omega) (fun h hm => ?_)
        try simp only [ma_at, ma_ma] at hm
        refine a_aload_n cx dX3_sets_82 rfl ?_
        refine a_iload_n cx dX3_sets_83 rfl ?_
        refine m_calli cx (k3_done cx.htr) (lw_V q2085 q2087 qs32 q87 q2088) dn_X3_done (RN.of rfl rfl rfl rfl) rfl hm rfl rfl (Nat.le_of_ble_eq_true rfl) dX3_sets_84 (Nat.zero_le _) (Nat.zero_le _) (fun h hm => ?_)
        exact a_iret cx hq dX3_sets_87 ⟨_, ⟨by rw [eA], AR.done ((SX.rf σ).s) eA⟩, hm⟩ (Nat.zero_le _) (Nat.zero_le _)
      · have hn : nH (σ.2 1) = 6 := nI_inj (by omega) (by decide) c42
        rw [if_pos hn] at eA
        refine a_aload_n cx dX3_sets_45 rfl ?_
        refine a_iconst cx (v := 1) dX3_sets_46 (by decide) ?_
        refine a_bipush cx (v := 6) dX3_sets_47 (by decide) ?_
        refine m_calli cx (k3_refused cx.htr) (lw_V q2070 q2072 qs29 q87 q2073) dn_X3_refused (RN.of rfl rfl rfl rfl) rfl hm rfl rfl (Nat.le_of_ble_eq_true rfl) dX3_sets_49 (Nat.zero_le _) (Nat.zero_le _) (fun h hm => ?_)
        exact a_iret cx hq dX3_sets_52 ⟨_, ⟨by rw [eA], AR.ref (SX.rf σ) eA (by decide)⟩, hm⟩ (Nat.zero_le _) (Nat.zero_le _)
    · obtain ⟨j, hj⟩ : ∃ j, hutAt (σ.2 1) x y = some j := by
        cases hq : hutAt (σ.2 1) x y with
        | none => rw [hq] at c17; exact absurd rfl c17
        | some j => exact ⟨j, rfl⟩
      have hjl : j < nH (σ.2 1) := hAt_lt hj
      have eA : setsA (σ.2 1) x y = (2, nI j, σ.2 1) := by rw [setsA, if_pos p1, hj]
      refine a_aload_n cx dX3_sets_20 rfl ?_
      refine a_iconst cx (v := 2) dX3_sets_21 (by decide) ?_
      refine a_aload_n cx dX3_sets_22 rfl ?_
      refine a_iload_n cx dX3_sets_23 rfl ?_
      refine a_iload_n cx dX3_sets_24 rfl ?_
      refine m_calli cx (k3_hutAt cx.htr hw) (lw_V q2109 q2111 qs37 q87 q2112) dn_X3_hutAt (RN.of rfl rfl rfl rfl) rfl hm rfl rfl (Nat.le_of_ble_eq_true rfl) dX3_sets_25 (Nat.zero_le _) (Nat.zero_le _) (fun h hm => ?_)
      refine AW.topi (show oI (hutAt (σ.2 1) x y) = nI j by rw [hj]; rfl) ?_
      refine m_calli cx (k3_refused cx.htr) (lw_V q2070 q2072 qs29 q87 q2073) dn_X3_refused (RN.of rfl rfl rfl rfl) rfl hm rfl rfl (Nat.le_of_ble_eq_true rfl) dX3_sets_28 (Nat.zero_le _) (Nat.zero_le _) (fun h hm => ?_)
      exact a_iret cx hq dX3_sets_31 ⟨_, ⟨by rw [eA], AR.ref (SX.rf σ) eA (by decide)⟩, hm⟩ (Nat.zero_le _) (Nat.zero_le _)
  · have eA : setsA (σ.2 1) x y = (-1, 0, σ.2 1) := if_neg (fun q => by have h9 := (bI_0 _).mp c5; rw [q.1, q.2] at h9; cases h9)
    refine a_iconst cx (v := -1) dX3_sets_8 (by decide) ?_
    exact a_iret cx hq dX3_sets_9 ⟨_, ⟨by rw [eA], AR.thr eA (by decide)⟩, hm⟩ (Nat.zero_le _) (Nat.zero_le _)
abbrev rm_X3_moves : Room := { frames := 2, cells := 0, slots := 0, locals := 43 }
set_option maxHeartbeats 4000000 in
theorem k3_moves {l : Launch} {g : GP} {ad : Nat → Nat} {σ : MS} (htr : l.stackTraces = false) {u x y : Int32} (hw : WS (σ.2 1)) : MK l g ad yX3_moves cX3_moves 5 (some .int) rm_X3_moves σ [.int u, .int x, .int y] (fun v σ' => v = some (.int (movesA (σ.2 1) u x y).1) ∧ AR σ σ' (movesA (σ.2 1) u x y)) := by
  refine MK.of (by decide +kernel) htr (Nat.le_of_ble_eq_true rfl) (L0 := [some (.ref (ad 0)), some (.int u), some (.int x), some (.int y), none]) rfl ?_
  intro M h0 h cx _ hq hm
  obtain ⟨hw1, hw2, hw3, hw4⟩ := id hw
  refine a_aload_n cx dX3_moves_0 rfl ?_
  refine a_iload_n cx dX3_moves_1 rfl ?_
  refine m_calli cx (k3_isHut cx.htr hw) (lw_V q2133 q2135 qs41 q87 q2136) dn_X3_isHut (RN.of rfl rfl rfl rfl) rfl hm rfl rfl (Nat.le_of_ble_eq_true rfl) dX3_moves_2 (Nat.zero_le _) (Nat.zero_le _) (fun h hm => ?_)
  refine a_if_ne cx (tgt := 10) dX3_moves_5 (by decide) (fun c5 => ?_) (fun c5 => ?_)
  · have p0 := bI_n0 c5
    obtain ⟨i, hi, rfl⟩ := (isIx_iff (by omega)).mp p0
    refine a_iload_n cx dX3_moves_10 rfl ?_
    refine a_iload_n cx dX3_moves_11 rfl ?_
    refine s_calli cx (k3_isPlace cx.htr) (lw_S q2064 q2065 q87 q2066) dn_X3_isPlace (RN.of rfl rfl rfl rfl) rfl rfl (Nat.le_of_ble_eq_true rfl) dX3_moves_12 (Nat.zero_le _) (Nat.zero_le _) ?_
    refine a_if_ne cx (tgt := 21) dX3_moves_15 (by decide) (fun c15 => ?_) (fun c15 => ?_)
    · have p1 := bI_n0 c15
      rw [Bool.and_eq_true] at p1
      refine a_aload_n cx dX3_moves_21 rfl ?_
      refine a_iload_n cx dX3_moves_22 rfl ?_
      refine a_iload_n cx dX3_moves_23 rfl ?_
      refine m_calli cx (k3_hutAt cx.htr hw) (lw_V q2109 q2111 qs37 q87 q2112) dn_X3_hutAt (RN.of rfl rfl rfl rfl) rfl hm rfl rfl (Nat.le_of_ble_eq_true rfl) dX3_moves_24 (Nat.zero_le _) (Nat.zero_le _) (fun h hm => ?_)
      refine a_iconst cx (v := -1) dX3_moves_27 (by decide) ?_
      refine a_icmp_eq cx (tgt := 43) dX3_moves_28 (by decide) (fun c28 => ?_) (fun c28 => ?_)
      · have hj : hutAt (σ.2 1) x y = none := (oI_m1 (fun j hj => by have : j < nH (σ.2 1) := hAt_lt hj; omega)).mp c28
        have eA : movesA (σ.2 1) (nI i) x y = (0, fTo (σ.2 1) x y i, upd (upd (σ.2 1) (81 + i) x) (87 + i) y) := by rw [movesA, if_pos p0, if_pos p1, hj]; dsimp only; rw [oN_nI (by omega)]
        refine a_aload_n cx dX3_moves_43 rfl ?_
        refine a_iload_n cx dX3_moves_44 rfl ?_
        refine a_iload_n cx dX3_moves_45 rfl ?_
        refine a_iload_n cx dX3_moves_46 rfl ?_
        refine m_calli cx (k3_farTo cx.htr (by omega)) (lw_V q2078 q2080 qs31 q87 q2081) dn_X3_farTo (RN.of rfl rfl rfl rfl) rfl hm rfl rfl (Nat.le_of_ble_eq_true rfl) dX3_moves_47 (Nat.zero_le _) (Nat.zero_le _) (fun h hm => ?_)
        refine a_istore cx dX3_moves_50 (Nat.le_of_ble_eq_true rfl) rfl ?_
        refine a_aload_n cx dX3_moves_52 rfl ?_
        refine a_get cx fl_X3_7.g dX3_moves_53 hm.o rfl ?_
        refine a_bipush cx (v := 81) dX3_moves_56 (by decide) ?_
        refine a_iload_n cx dX3_moves_58 rfl ?_
        refine a_iadd cx dX3_moves_59 ?_
        refine a_iload_n cx dX3_moves_60 rfl ?_
        refine m_iast cx (i := 0) (by decide) dX3_moves_61 hm (ix4 _) (show _ < 93 from by omega) (fun h hm => ?_)
        refine a_aload_n cx dX3_moves_62 rfl ?_
        refine a_get cx fl_X3_7.g dX3_moves_63 hm.o rfl ?_
        refine a_bipush cx (v := 87) dX3_moves_66 (by decide) ?_
        refine a_iload_n cx dX3_moves_68 rfl ?_
        refine a_iadd cx dX3_moves_69 ?_
        refine a_iload_n cx dX3_moves_70 rfl ?_
        refine m_iast cx (i := 0) (by decide) dX3_moves_71 hm (ix5 _) (show _ < 93 from by omega) (fun h hm => ?_)
        try simp only [ma_at, ma_ma] at hm
        refine a_aload_n cx dX3_moves_72 rfl ?_
        refine a_iload cx dX3_moves_73 rfl ?_
        refine m_calli cx (k3_done cx.htr) (lw_V q2085 q2087 qs32 q87 q2088) dn_X3_done (RN.of rfl rfl rfl rfl) rfl hm rfl rfl (Nat.le_of_ble_eq_true rfl) dX3_moves_75 (Nat.zero_le _) (Nat.zero_le _) (fun h hm => ?_)
        exact a_iret cx hq dX3_moves_78 ⟨_, ⟨by rw [eA], AR.done ((SX.rf σ).s) eA⟩, hm⟩ (Nat.zero_le _) (Nat.zero_le _)
      · obtain ⟨j, hj⟩ : ∃ j, hutAt (σ.2 1) x y = some j := by
          cases hq : hutAt (σ.2 1) x y with
          | none => rw [hq] at c28; exact absurd rfl c28
          | some j => exact ⟨j, rfl⟩
        have hjl : j < nH (σ.2 1) := hAt_lt hj
        have eA : movesA (σ.2 1) (nI i) x y = (2, nI j, σ.2 1) := by rw [movesA, if_pos p0, if_pos p1, hj]
        refine a_aload_n cx dX3_moves_31 rfl ?_
        refine a_iconst cx (v := 2) dX3_moves_32 (by decide) ?_
        refine a_aload_n cx dX3_moves_33 rfl ?_
        refine a_iload_n cx dX3_moves_34 rfl ?_
        refine a_iload_n cx dX3_moves_35 rfl ?_
        refine m_calli cx (k3_hutAt cx.htr hw) (lw_V q2109 q2111 qs37 q87 q2112) dn_X3_hutAt (RN.of rfl rfl rfl rfl) rfl hm rfl rfl (Nat.le_of_ble_eq_true rfl) dX3_moves_36 (Nat.zero_le _) (Nat.zero_le _) (fun h hm => ?_)
        refine AW.topi (show oI (hutAt (σ.2 1) x y) = nI j by rw [hj]; rfl) ?_
        refine m_calli cx (k3_refused cx.htr) (lw_V q2070 q2072 qs29 q87 q2073) dn_X3_refused (RN.of rfl rfl rfl rfl) rfl hm rfl rfl (Nat.le_of_ble_eq_true rfl) dX3_moves_39 (Nat.zero_le _) (Nat.zero_le _) (fun h hm => ?_)
        exact a_iret cx hq dX3_moves_42 ⟨_, ⟨by rw [eA], AR.ref (SX.rf σ) eA (by decide)⟩, hm⟩ (Nat.zero_le _) (Nat.zero_le _)
    · have eA : movesA (σ.2 1) (nI i) x y = (-2, 0, σ.2 1) := by rw [movesA, if_pos p0, if_neg (fun q => by have h9 := (bI_0 _).mp c15; rw [q.1, q.2] at h9; cases h9)]
      refine a_bipush cx (v := -2) dX3_moves_18 (by decide) ?_
      exact a_iret cx hq dX3_moves_20 ⟨_, ⟨by rw [eA], AR.thr eA (by decide)⟩, hm⟩ (Nat.zero_le _) (Nat.zero_le _)
  · have eA : movesA (σ.2 1) u x y = (-1, 0, σ.2 1) := if_neg (fun q => by have h9 := (bI_0 _).mp c5; rw [q] at h9; cases h9)
    refine a_iconst cx (v := -1) dX3_moves_8 (by decide) ?_
    exact a_iret cx hq dX3_moves_9 ⟨_, ⟨by rw [eA], AR.thr eA (by decide)⟩, hm⟩ (Nat.zero_le _) (Nat.zero_le _)
abbrev rm_X3_weighs : Room := { frames := 2, cells := 0, slots := 0, locals := 43 }
set_option maxHeartbeats 4000000 in
theorem k3_weighs {l : Launch} {g : GP} {ad : Nat → Nat} {σ : MS} (htr : l.stackTraces = false) {u w : Int32} (hw : WS (σ.2 1)) : MK l g ad yX3_weighs cX3_weighs 4 (some .int) rm_X3_weighs σ [.int u, .int w] (fun v σ' => v = some (.int (weighsA (σ.2 1) u w).1) ∧ AR σ σ' (weighsA (σ.2 1) u w)) := by
  refine MK.of (by decide +kernel) htr (Nat.le_of_ble_eq_true rfl) (L0 := [some (.ref (ad 0)), some (.int u), some (.int w), none]) rfl ?_
  intro M h0 h cx _ hq hm
  obtain ⟨hw1, hw2, hw3, hw4⟩ := id hw
  refine a_aload_n cx dX3_weighs_0 rfl ?_
  refine a_iload_n cx dX3_weighs_1 rfl ?_
  refine m_calli cx (k3_isSheep cx.htr hw) (lw_V q2121 q2123 qs39 q87 q2124) dn_X3_isSheep (RN.of rfl rfl rfl rfl) rfl hm rfl rfl (Nat.le_of_ble_eq_true rfl) dX3_weighs_2 (Nat.zero_le _) (Nat.zero_le _) (fun h hm => ?_)
  refine a_if_ne cx (tgt := 10) dX3_weighs_5 (by decide) (fun c5 => ?_) (fun c5 => ?_)
  · have p0 := bI_n0 c5
    obtain ⟨i, hi, rfl⟩ := (isIx_iff (by omega)).mp p0
    refine a_iload_n cx dX3_weighs_10 rfl ?_
    refine a_iconst cx (v := 1) dX3_weighs_11 (by decide) ?_
    refine a_bipush cx (v := 9) dX3_weighs_12 (by decide) ?_
    refine s_calli cx (k3_in cx.htr) (lw_S q2067 q2068 q87 q2069) dn_X3_in (RN.of rfl rfl rfl rfl) rfl rfl (Nat.le_of_ble_eq_true rfl) dX3_weighs_14 (Nat.zero_le _) (Nat.zero_le _) ?_
    refine a_if_ne cx (tgt := 23) dX3_weighs_17 (by decide) (fun c17 => ?_) (fun c17 => ?_)
    · have p1 := bI_n0 c17
      have eA : weighsA (σ.2 1) (nI i) w = (if (σ.2 1) (45 + i) = w then (7, w, σ.2 1) else (0, (σ.2 1) (45 + i), upd (σ.2 1) (45 + i) w)) := by rw [weighsA, if_pos p0, if_pos p1, oN_nI (by omega)]
      refine a_aload_n cx dX3_weighs_23 rfl ?_
      refine a_get cx fl_X3_7.g dX3_weighs_24 hm.o rfl ?_
      refine a_bipush cx (v := 45) dX3_weighs_27 (by decide) ?_
      refine a_iload_n cx dX3_weighs_29 rfl ?_
      refine a_iadd cx dX3_weighs_30 ?_
      refine a_iald cx dX3_weighs_31 hm.a1 (ix2 _) (by omega) (by decide) ?_
      refine a_istore_n cx dX3_weighs_32 (Nat.le_of_ble_eq_true rfl) rfl ?_
      refine a_iload_n cx dX3_weighs_33 rfl ?_
      refine a_iload_n cx dX3_weighs_34 rfl ?_
      refine a_icmp_ne cx (tgt := 46) dX3_weighs_35 (by decide) (fun c35 => ?_) (fun c35 => ?_)
      · rw [if_neg c35] at eA
        refine a_aload_n cx dX3_weighs_46 rfl ?_
        refine a_get cx fl_X3_7.g dX3_weighs_47 hm.o rfl ?_
        refine a_bipush cx (v := 45) dX3_weighs_50 (by decide) ?_
        refine a_iload_n cx dX3_weighs_52 rfl ?_
        refine a_iadd cx dX3_weighs_53 ?_
        refine a_iload_n cx dX3_weighs_54 rfl ?_
        refine m_iast cx (i := 0) (by decide) dX3_weighs_55 hm (ix2 _) (show _ < 93 from by omega) (fun h hm => ?_)
        refine a_aload_n cx dX3_weighs_56 rfl ?_
        refine a_iload_n cx dX3_weighs_57 rfl ?_
        refine m_calli cx (k3_done cx.htr) (lw_V q2085 q2087 qs32 q87 q2088) dn_X3_done (RN.of rfl rfl rfl rfl) rfl hm rfl rfl (Nat.le_of_ble_eq_true rfl) dX3_weighs_58 (Nat.zero_le _) (Nat.zero_le _) (fun h hm => ?_)
        exact a_iret cx hq dX3_weighs_61 ⟨_, ⟨by rw [eA], AR.done ((SX.rf σ).s) eA⟩, hm⟩ (Nat.zero_le _) (Nat.zero_le _)
      · rw [if_pos c35] at eA
        refine a_aload_n cx dX3_weighs_38 rfl ?_
        refine a_bipush cx (v := 7) dX3_weighs_39 (by decide) ?_
        refine a_iload_n cx dX3_weighs_41 rfl ?_
        refine m_calli cx (k3_refused cx.htr) (lw_V q2070 q2072 qs29 q87 q2073) dn_X3_refused (RN.of rfl rfl rfl rfl) rfl hm rfl rfl (Nat.le_of_ble_eq_true rfl) dX3_weighs_42 (Nat.zero_le _) (Nat.zero_le _) (fun h hm => ?_)
        exact a_iret cx hq dX3_weighs_45 ⟨_, ⟨by rw [eA], AR.ref (SX.rf σ) eA (by decide)⟩, hm⟩ (Nat.zero_le _) (Nat.zero_le _)
    · have eA : weighsA (σ.2 1) (nI i) w = (-2, 0, σ.2 1) := by rw [weighsA, if_pos p0, if_neg (fun q => by have h9 := (bI_0 _).mp c17; rw [q] at h9; cases h9)]
      refine a_bipush cx (v := -2) dX3_weighs_20 (by decide) ?_
      exact a_iret cx hq dX3_weighs_22 ⟨_, ⟨by rw [eA], AR.thr eA (by decide)⟩, hm⟩ (Nat.zero_le _) (Nat.zero_le _)
  · have eA : weighsA (σ.2 1) u w = (-1, 0, σ.2 1) := if_neg (fun q => by have h9 := (bI_0 _).mp c5; rw [q] at h9; cases h9)
    refine a_iconst cx (v := -1) dX3_weighs_8 (by decide) ?_
    exact a_iret cx hq dX3_weighs_9 ⟨_, ⟨by rw [eA], AR.thr eA (by decide)⟩, hm⟩ (Nat.zero_le _) (Nat.zero_le _)
abbrev rm_X3_rounds : Room := { frames := 5, cells := 0, slots := 0, locals := 113 }
set_option maxHeartbeats 4000000 in
theorem k3_rounds {l : Launch} {g : GP} {ad : Nat → Nat} {σ : MS} (htr : l.stackTraces = false) (hf : WF (σ.2 1)) : MK l g ad yX3_rounds cX3_rounds 1 (some .int) rm_X3_rounds σ [] (fun v σ' => v = some (.int (roundsA (σ.2 1)).1) ∧ AR σ σ' (roundsA (σ.2 1))) := by
  refine MK.of (by decide +kernel) htr (Nat.le_of_ble_eq_true rfl) (L0 := [some (.ref (ad 0))]) rfl ?_
  intro M h0 h cx _ hq hm
  have hw := hf.1
  obtain ⟨hw1, hw2, hw3, hw4⟩ := id hw
  refine a_aload_n cx dX3_rounds_0 rfl ?_
  refine a_get cx fl_X3_7.g dX3_rounds_1 hm.o rfl ?_
  refine a_iconst cx (v := 1) dX3_rounds_4 (by decide) ?_
  refine a_iald cx dX3_rounds_5 hm.a1 (show (1 : Int32) = nI 1 from rfl) (by omega) (by decide) ?_
  refine AW.topi hw3 ?_
  refine a_if_ne cx (tgt := 21) dX3_rounds_6 (by decide) (fun c6 => ?_) (fun c6 => ?_)
  · have hn : nH (σ.2 1) ≠ 0 := fun q => c6 (by rw [q]; rfl)
    have eA : roundsA (σ.2 1) = (0, nI (mvd (σ.2 1) (ground (σ.2 1)) (nH (σ.2 1))), ground (σ.2 1)) := if_neg hn
    refine a_aload_n cx dX3_rounds_21 rfl ?_
    refine a_aload_n cx dX3_rounds_22 rfl ?_
    refine m_call cx (k3_goesRound cx.htr hf) (lw_V q2201 q2203 qs53 q87 q2204) dn_X3_goesRound (RN.of rfl rfl rfl rfl) rfl hm rfl rfl (Nat.le_of_ble_eq_true rfl) dX3_rounds_23 (Nat.zero_le _) (Nat.zero_le _) (fun v9 τ h hp hm => ?_)
    obtain ⟨rfl, hx⟩ := hp
    refine m_calli cx (k3_done cx.htr) (lw_V q2085 q2087 qs32 q87 q2088) dn_X3_done (RN.of rfl rfl rfl rfl) rfl hm rfl rfl (Nat.le_of_ble_eq_true rfl) dX3_rounds_26 (Nat.zero_le _) (Nat.zero_le _) (fun h hm => ?_)
    exact a_iret cx hq dX3_rounds_29 ⟨_, ⟨by rw [eA], AR.done hx.w eA⟩, hm⟩ (Nat.zero_le _) (Nat.zero_le _)
  · have hn : nH (σ.2 1) = 0 := nI_inj (by omega) (by decide) c6
    have eA : roundsA (σ.2 1) = (3, nI (nS (σ.2 1)), σ.2 1) := if_pos hn
    refine a_aload_n cx dX3_rounds_9 rfl ?_
    refine a_iconst cx (v := 3) dX3_rounds_10 (by decide) ?_
    refine a_aload_n cx dX3_rounds_11 rfl ?_
    refine a_get cx fl_X3_7.g dX3_rounds_12 hm.o rfl ?_
    refine a_iconst cx (v := 0) dX3_rounds_15 (by decide) ?_
    refine a_iald cx dX3_rounds_16 hm.a1 (show (0 : Int32) = nI 0 from rfl) (by omega) (by decide) ?_
    refine AW.topi hw1 ?_
    refine m_calli cx (k3_refused cx.htr) (lw_V q2070 q2072 qs29 q87 q2073) dn_X3_refused (RN.of rfl rfl rfl rfl) rfl hm rfl rfl (Nat.le_of_ble_eq_true rfl) dX3_rounds_17 (Nat.zero_le _) (Nat.zero_le _) (fun h hm => ?_)
    exact a_iret cx hq dX3_rounds_20 ⟨_, ⟨by rw [eA], AR.ref (SX.rf σ) eA (by decide)⟩, hm⟩ (Nat.zero_le _) (Nat.zero_le _)
abbrev rm_X3_settles : Room := { frames := 6, cells := 0, slots := 0, locals := 135 }
set_option maxHeartbeats 4000000 in
theorem k3_settles {l : Launch} {g : GP} {ad : Nat → Nat} {σ : MS} (htr : l.stackTraces = false) {u : Int32} (hf : WF (σ.2 1)) : MK l g ad yX3_settles cX3_settles 4 (some .int) rm_X3_settles σ [.int u] (fun v σ' => v = some (.int (settlesA (σ.2 1) u).1) ∧ AR σ σ' (settlesA (σ.2 1) u)) := by
  refine MK.of (by decide +kernel) htr (Nat.le_of_ble_eq_true rfl) (L0 := [some (.ref (ad 0)), some (.int u), none, none]) rfl ?_
  intro M h0 h cx _ hq hm
  have hw := hf.1
  obtain ⟨hw1, hw2, hw3, hw4⟩ := id hw
  refine a_iload_n cx dX3_settles_0 rfl ?_
  refine a_iconst cx (v := 1) dX3_settles_1 (by decide) ?_
  refine a_bipush cx (v := 30) dX3_settles_2 (by decide) ?_
  refine s_calli cx (k3_in cx.htr) (lw_S q2067 q2068 q87 q2069) dn_X3_in (RN.of rfl rfl rfl rfl) rfl rfl (Nat.le_of_ble_eq_true rfl) dX3_settles_4 (Nat.zero_le _) (Nat.zero_le _) ?_
  refine a_if_ne cx (tgt := 12) dX3_settles_7 (by decide) (fun c7 => ?_) (fun c7 => ?_)
  · have p0 := bI_n0 c7
    obtain ⟨m, hm30, rfl⟩ := nI_of2 (M := 30) (n := 30) (by decide) (show ¬ u < 0 from Int32.not_lt.mpr (Int32.le_trans (by decide) ((inR_iff _ _ _).mp p0).1)) ((inR_iff _ _ _).mp p0).2
    refine a_aload_n cx dX3_settles_12 rfl ?_
    refine a_get cx fl_X3_7.g dX3_settles_13 hm.o rfl ?_
    refine a_iconst cx (v := 1) dX3_settles_16 (by decide) ?_
    refine a_iald cx dX3_settles_17 hm.a1 (show (1 : Int32) = nI 1 from rfl) (by omega) (by decide) ?_
    refine AW.topi hw3 ?_
    refine a_if_ne cx (tgt := 33) dX3_settles_18 (by decide) (fun c18 => ?_) (fun c18 => ?_)
    · have hn : nH (σ.2 1) ≠ 0 := fun q => c18 (by rw [q]; rfl)
      refine a_aload_n cx dX3_settles_33 rfl ?_
      refine m_call cx (k3_isStillNow cx.htr hf) (lw_V q2225 q2227 qs58 q87 q2228) dn_X3_isStillNow (RN.of rfl rfl rfl rfl) rfl hm rfl rfl (Nat.le_of_ble_eq_true rfl) dX3_settles_34 (Nat.zero_le _) (Nat.zero_le _) (fun v9 τ h hp hm => ?_)
      obtain ⟨rfl, hx⟩ := hp
      refine a_if_eq cx (tgt := 52) dX3_settles_37 (by decide) (fun c37 => ?_) (fun c37 => ?_)
      · have hst := (bI_0 _).mp c37
        have eA : settlesA (σ.2 1) (nI m) = (0, nI (toStill (σ.2 1) m), rnds (σ.2 1) (toStill (σ.2 1) m)) := by rw [settlesA, if_pos p0, if_neg hn, if_neg (by rw [hst]; decide), oN_nI (by omega)]
        refine a_iconst cx (v := 0) dX3_settles_52 (by decide) ?_
        refine a_istore_n cx dX3_settles_53 (Nat.le_of_ble_eq_true rfl) rfl ?_
        have loop : ∀ (j k : Nat) (τ : MS) (h : AH), k ≤ m → m < k + j → k + toStill (rnds (σ.2 1) k) (m - k) = toStill (σ.2 1) m → MSt g ad h0 τ h → SX σ τ (rnds (σ.2 1) k) scr → AW g M 0 0 54 [some (.ref (ad 0)), some (.int (nI m)), some (.int (nI k)), none] [] h := by
          intro j
          induction j with
          | zero => intro k τ h h1 h2; omega
          | succ j ih =>
            intro k τ h h0 h1 h2 hm hx
            refine a_iload_n cx dX3_settles_54 rfl ?_
            refine a_iload_n cx dX3_settles_55 rfl ?_
            refine a_icmp_ge cx (tgt := 77) dX3_settles_56 (by decide) (fun c56 => ?_) (fun c56 => ?_)
            · have d56 := le_nI c56 (by omega) (by omega)
              have e56 : k = toStill (σ.2 1) m := by
                have q9 : toStill (rnds (σ.2 1) k) (m - k) = 0 := by rw [show m - k = 0 by omega]; rfl
                omega
              rw [e56] at hx
              refine a_aload_n cx dX3_settles_77 rfl ?_
              refine a_iload_n cx dX3_settles_78 rfl ?_
              refine m_calli cx (k3_done cx.htr) (lw_V q2085 q2087 qs32 q87 q2088) dn_X3_done (RN.of rfl rfl rfl rfl) rfl hm rfl rfl (Nat.le_of_ble_eq_true rfl) dX3_settles_79 (Nat.zero_le _) (Nat.zero_le _) (fun h hm => ?_)
              exact a_iret cx hq dX3_settles_82 ⟨_, ⟨by rw [eA], AR.done hx (by rw [eA, e56])⟩, hm⟩ (Nat.zero_le _) (Nat.zero_le _)
            · have d56 := nle_nI c56 (by omega) (by omega)
              obtain ⟨i, hi⟩ : ∃ i, m - k = i + 1 := ⟨m - k - 1, by omega⟩
              rw [hi, toStill] at h2
              refine a_aload_n cx dX3_settles_59 rfl ?_
              refine m_call cx (k3_isStillNow cx.htr (by rw [hx.row]; exact rnds_WF hf k)) (lw_V q2225 q2227 qs58 q87 q2228) dn_X3_isStillNow (RN.of rfl rfl rfl rfl) rfl hm rfl rfl (Nat.le_of_ble_eq_true rfl) dX3_settles_60 (Nat.zero_le _) (Nat.zero_le _) (fun v9 υ h hp hm => ?_)
              obtain ⟨rfl, hy⟩ := hp
              rw [hx.row] at hy ⊢
              replace hx := hx.t hy
              refine a_if_ne cx (tgt := 77) dX3_settles_63 (by decide) (fun c63 => ?_) (fun c63 => ?_)
              · have e56 : k = toStill (σ.2 1) m := by
                  rw [if_pos (bI_n0 c63)] at h2
                  omega
                rw [e56] at hx
                refine a_aload_n cx dX3_settles_77 rfl ?_
                refine a_iload_n cx dX3_settles_78 rfl ?_
                refine m_calli cx (k3_done cx.htr) (lw_V q2085 q2087 qs32 q87 q2088) dn_X3_done (RN.of rfl rfl rfl rfl) rfl hm rfl rfl (Nat.le_of_ble_eq_true rfl) dX3_settles_79 (Nat.zero_le _) (Nat.zero_le _) (fun h hm => ?_)
                exact a_iret cx hq dX3_settles_82 ⟨_, ⟨by rw [eA], AR.done hx (by rw [eA, e56])⟩, hm⟩ (Nat.zero_le _) (Nat.zero_le _)
              · have hs9 := (bI_0 _).mp c63
                rw [if_neg (by rw [hs9]; decide)] at h2
                refine a_aload_n cx dX3_settles_66 rfl ?_
                refine m_call cx (k3_goesRound cx.htr (by rw [hx.row]; exact rnds_WF hf k)) (lw_V q2201 q2203 qs53 q87 q2204) dn_X3_goesRound (RN.of rfl rfl rfl rfl) rfl hm rfl rfl (Nat.le_of_ble_eq_true rfl) dX3_settles_67 (Nat.zero_le _) (Nat.zero_le _) (fun v9 ζ h hp hm => ?_)
                obtain ⟨rfl, hz⟩ := hp
                rw [hx.row] at hz
                replace hx := hx.t hz.w
                refine a_istore_n cx dX3_settles_70 (Nat.le_of_ble_eq_true rfl) rfl ?_
                refine a_iincN cx dX3_settles_71 rfl (Nat.le_of_ble_eq_true rfl) rfl ?_
                refine a_goto cx (tgt := 54) dX3_settles_74 (by decide) ?_
                exact (ih (k + 1) _ h (by omega) (by omega) (by rw [show rnds (σ.2 1) (k + 1) = ground (rnds (σ.2 1) k) from rfl, show m - (k + 1) = i by omega]; omega) hm hx).loc (by exact ⟨rfl, rfl, rfl, trivial⟩)
        exact loop (m + 1) 0 τ h (by omega) (by omega) (by rw [Nat.zero_add]; rfl) hm hx
      · have hst := bI_n0 c37
        have eA : settlesA (σ.2 1) (nI m) = (4, (σ.2 1) 2, σ.2 1) := by rw [settlesA, if_pos p0, if_neg hn, if_pos hst]
        refine a_aload_n cx dX3_settles_40 rfl ?_
        refine a_iconst cx (v := 4) dX3_settles_41 (by decide) ?_
        refine a_aload_n cx dX3_settles_42 rfl ?_
        refine a_get cx fl_X3_7.g dX3_settles_43 hm.o rfl ?_
        refine a_iconst cx (v := 2) dX3_settles_46 (by decide) ?_
        refine a_iald cx dX3_settles_47 hm.a1 (show (2 : Int32) = nI 2 from rfl) (by omega) (by decide) ?_
        rw [hx.row]
        refine m_calli cx (k3_refused cx.htr) (lw_V q2070 q2072 qs29 q87 q2073) dn_X3_refused (RN.of rfl rfl rfl rfl) rfl hm rfl rfl (Nat.le_of_ble_eq_true rfl) dX3_settles_48 (Nat.zero_le _) (Nat.zero_le _) (fun h hm => ?_)
        exact a_iret cx hq dX3_settles_51 ⟨_, ⟨by rw [eA], AR.ref hx eA (by decide)⟩, hm⟩ (Nat.zero_le _) (Nat.zero_le _)
    · have hn : nH (σ.2 1) = 0 := nI_inj (by omega) (by decide) c18
      have eA : settlesA (σ.2 1) (nI m) = (3, nI (nS (σ.2 1)), σ.2 1) := by rw [settlesA, if_pos p0, if_pos hn]
      refine a_aload_n cx dX3_settles_21 rfl ?_
      refine a_iconst cx (v := 3) dX3_settles_22 (by decide) ?_
      refine a_aload_n cx dX3_settles_23 rfl ?_
      refine a_get cx fl_X3_7.g dX3_settles_24 hm.o rfl ?_
      refine a_iconst cx (v := 0) dX3_settles_27 (by decide) ?_
      refine a_iald cx dX3_settles_28 hm.a1 (show (0 : Int32) = nI 0 from rfl) (by omega) (by decide) ?_
      refine AW.topi hw1 ?_
      refine m_calli cx (k3_refused cx.htr) (lw_V q2070 q2072 qs29 q87 q2073) dn_X3_refused (RN.of rfl rfl rfl rfl) rfl hm rfl rfl (Nat.le_of_ble_eq_true rfl) dX3_settles_29 (Nat.zero_le _) (Nat.zero_le _) (fun h hm => ?_)
      exact a_iret cx hq dX3_settles_32 ⟨_, ⟨by rw [eA], AR.ref (SX.rf σ) eA (by decide)⟩, hm⟩ (Nat.zero_le _) (Nat.zero_le _)
  · have eA : settlesA (σ.2 1) u = (-1, 0, σ.2 1) := if_neg (fun q => by have h9 := (bI_0 _).mp c7; rw [q] at h9; cases h9)
    refine a_iconst cx (v := -1) dX3_settles_10 (by decide) ?_
    exact a_iret cx hq dX3_settles_11 ⟨_, ⟨by rw [eA], AR.thr eA (by decide)⟩, hm⟩ (Nat.zero_le _) (Nat.zero_le _)
abbrev rm_X3_sends : Room := { frames := 2, cells := 0, slots := 0, locals := 43 }
set_option maxHeartbeats 4000000 in
theorem k3_sends {l : Launch} {g : GP} {ad : Nat → Nat} {σ : MS} (htr : l.stackTraces = false) {u w : Int32} (hw : WS (σ.2 1)) : MK l g ad yX3_sends cX3_sends 4 (some .int) rm_X3_sends σ [.int u, .int w] (fun v σ' => v = some (.int (sendsA (σ.2 1) u w).1) ∧ AR σ σ' (sendsA (σ.2 1) u w)) := by
  refine MK.of (by decide +kernel) htr (Nat.le_of_ble_eq_true rfl) (L0 := [some (.ref (ad 0)), some (.int u), some (.int w), none]) rfl ?_
  intro M h0 h cx _ hq hm
  obtain ⟨hw1, hw2, hw3, hw4⟩ := id hw
  refine a_iload_n cx dX3_sends_0 rfl ?_
  refine a_iconst cx (v := 0) dX3_sends_1 (by decide) ?_
  refine a_iconst cx (v := 2) dX3_sends_2 (by decide) ?_
  refine s_calli cx (k3_in cx.htr) (lw_S q2067 q2068 q87 q2069) dn_X3_in (RN.of rfl rfl rfl rfl) rfl rfl (Nat.le_of_ble_eq_true rfl) dX3_sends_3 (Nat.zero_le _) (Nat.zero_le _) ?_
  refine a_if_eq cx (tgt := 22) dX3_sends_6 (by decide) (fun c6 => ?_) (fun c6 => ?_)
  · have eA : sendsA (σ.2 1) u w = (-1, 0, σ.2 1) := if_neg (fun q => by have h9 := (bI_0 _).mp c6; rw [q.1] at h9; cases h9)
    refine a_iconst cx (v := -1) dX3_sends_22 (by decide) ?_
    exact a_iret cx hq dX3_sends_23 ⟨_, ⟨by rw [eA], AR.thr eA (by decide)⟩, hm⟩ (Nat.zero_le _) (Nat.zero_le _)
  · have p0 := bI_n0 c6
    obtain ⟨d, hd, rfl⟩ := nI_of2 (M := 2) (n := 2) (by decide) (show ¬ u < 0 from Int32.not_lt.mpr ((inR_iff _ _ _).mp p0).1) ((inR_iff _ _ _).mp p0).2
    refine a_aload_n cx dX3_sends_9 rfl ?_
    refine a_iload_n cx dX3_sends_10 rfl ?_
    refine m_calli cx (k3_isHut cx.htr hw) (lw_V q2133 q2135 qs41 q87 q2136) dn_X3_isHut (RN.of rfl rfl rfl rfl) rfl hm rfl rfl (Nat.le_of_ble_eq_true rfl) dX3_sends_11 (Nat.zero_le _) (Nat.zero_le _) (fun h hm => ?_)
    have J : (isIx w (nH (σ.2 1)) = true ∨ w = -1) → AW g M 0 0 24 [some (.ref (ad 0)), some (.int (nI d)), some (.int w), none] [] h := by
      intro p1
      have eA : sendsA (σ.2 1) (nI d) w = (if (σ.2 1) (6 + d) = w then ((7 : Int32), w, σ.2 1) else (0, (σ.2 1) (6 + d), upd (σ.2 1) (6 + d) w)) := by rw [sendsA, if_pos ⟨p0, p1⟩, oN_nI (by omega)]
      refine a_aload_n cx dX3_sends_24 rfl ?_
      refine a_get cx fl_X3_7.g dX3_sends_25 hm.o rfl ?_
      refine a_bipush cx (v := 6) dX3_sends_28 (by decide) ?_
      refine a_iload_n cx dX3_sends_30 rfl ?_
      refine a_iadd cx dX3_sends_31 ?_
      refine a_iald cx dX3_sends_32 hm.a1 (ix6 _) (by omega) (by decide) ?_
      refine a_istore_n cx dX3_sends_33 (Nat.le_of_ble_eq_true rfl) rfl ?_
      refine a_iload_n cx dX3_sends_34 rfl ?_
      refine a_iload_n cx dX3_sends_35 rfl ?_
      refine a_icmp_ne cx (tgt := 47) dX3_sends_36 (by decide) (fun c36 => ?_) (fun c36 => ?_)
      · rw [if_neg c36] at eA
        refine a_aload_n cx dX3_sends_47 rfl ?_
        refine a_get cx fl_X3_7.g dX3_sends_48 hm.o rfl ?_
        refine a_bipush cx (v := 6) dX3_sends_51 (by decide) ?_
        refine a_iload_n cx dX3_sends_53 rfl ?_
        refine a_iadd cx dX3_sends_54 ?_
        refine a_iload_n cx dX3_sends_55 rfl ?_
        refine m_iast cx (i := 0) (by decide) dX3_sends_56 hm (ix6 _) (show _ < 93 from by omega) (fun h hm => ?_)
        refine a_aload_n cx dX3_sends_57 rfl ?_
        refine a_iload_n cx dX3_sends_58 rfl ?_
        refine m_calli cx (k3_done cx.htr) (lw_V q2085 q2087 qs32 q87 q2088) dn_X3_done (RN.of rfl rfl rfl rfl) rfl hm rfl rfl (Nat.le_of_ble_eq_true rfl) dX3_sends_59 (Nat.zero_le _) (Nat.zero_le _) (fun h hm => ?_)
        exact a_iret cx hq dX3_sends_62 ⟨_, ⟨by rw [eA], AR.done ((SX.rf σ).s) eA⟩, hm⟩ (Nat.zero_le _) (Nat.zero_le _)
      · rw [if_pos c36] at eA
        refine a_aload_n cx dX3_sends_39 rfl ?_
        refine a_bipush cx (v := 7) dX3_sends_40 (by decide) ?_
        refine a_iload_n cx dX3_sends_42 rfl ?_
        refine m_calli cx (k3_refused cx.htr) (lw_V q2070 q2072 qs29 q87 q2073) dn_X3_refused (RN.of rfl rfl rfl rfl) rfl hm rfl rfl (Nat.le_of_ble_eq_true rfl) dX3_sends_43 (Nat.zero_le _) (Nat.zero_le _) (fun h hm => ?_)
        exact a_iret cx hq dX3_sends_46 ⟨_, ⟨by rw [eA], AR.ref (SX.rf σ) eA (by decide)⟩, hm⟩ (Nat.zero_le _) (Nat.zero_le _)
    refine a_if_ne cx (tgt := 24) dX3_sends_14 (by decide) (fun c14 => ?_) (fun c14 => ?_)
    · have p1 : isIx w (nH (σ.2 1)) = true ∨ w = -1 := Or.inl (bI_n0 c14)
      exact J p1
    · have p2 := (bI_0 _).mp c14
      refine a_iload_n cx dX3_sends_17 rfl ?_
      refine a_iconst cx (v := -1) dX3_sends_18 (by decide) ?_
      refine a_icmp_eq cx (tgt := 24) dX3_sends_19 (by decide) (fun c19 => ?_) (fun c19 => ?_)
      · have p1 : isIx w (nH (σ.2 1)) = true ∨ w = -1 := Or.inr c19
        exact J p1
      · have eA : sendsA (σ.2 1) (nI d) w = (-1, 0, σ.2 1) := if_neg (fun q => q.2.elim (fun z => by rw [z] at p2; cases p2) c19)
        refine a_iconst cx (v := -1) dX3_sends_22 (by decide) ?_
        exact a_iret cx hq dX3_sends_23 ⟨_, ⟨by rw [eA], AR.thr eA (by decide)⟩, hm⟩ (Nat.zero_le _) (Nat.zero_le _)
abbrev rm_X3_fetches : Room := { frames := 5, cells := 0, slots := 0, locals := 110 }
set_option maxHeartbeats 4000000 in
theorem k3_fetches {l : Launch} {g : GP} {ad : Nat → Nat} {σ : MS} (htr : l.stackTraces = false) {u : Int32} (hw : WS (σ.2 1)) (ho : WO (σ.2 1)) : MK l g ad yX3_fetches cX3_fetches 5 (some .int) rm_X3_fetches σ [.int u] (fun v σ' => v = some (.int (fetchesA (σ.2 1) u).1) ∧ AR σ σ' (fetchesA (σ.2 1) u)) := by
  refine MK.of (by decide +kernel) htr (Nat.le_of_ble_eq_true rfl) (L0 := [some (.ref (ad 0)), some (.int u), none, none, none]) rfl ?_
  intro M h0 h cx _ hq hm
  obtain ⟨hw1, hw2, hw3, hw4⟩ := id hw
  refine a_iload_n cx dX3_fetches_0 rfl ?_
  refine a_iconst cx (v := 0) dX3_fetches_1 (by decide) ?_
  refine a_iconst cx (v := 2) dX3_fetches_2 (by decide) ?_
  refine s_calli cx (k3_in cx.htr) (lw_S q2067 q2068 q87 q2069) dn_X3_in (RN.of rfl rfl rfl rfl) rfl rfl (Nat.le_of_ble_eq_true rfl) dX3_fetches_3 (Nat.zero_le _) (Nat.zero_le _) ?_
  refine a_if_ne cx (tgt := 11) dX3_fetches_6 (by decide) (fun c6 => ?_) (fun c6 => ?_)
  · have p0 := bI_n0 c6
    obtain ⟨d, hd, rfl⟩ := nI_of2 (M := 2) (n := 2) (by decide) (show ¬ u < 0 from Int32.not_lt.mpr ((inR_iff _ _ _).mp p0).1) ((inR_iff _ _ _).mp p0).2
    refine a_aload_n cx dX3_fetches_11 rfl ?_
    refine a_get cx fl_X3_7.g dX3_fetches_12 hm.o rfl ?_
    refine a_bipush cx (v := 6) dX3_fetches_15 (by decide) ?_
    refine a_iload_n cx dX3_fetches_17 rfl ?_
    refine a_iadd cx dX3_fetches_18 ?_
    refine a_iald cx dX3_fetches_19 hm.a1 (ix6 _) (by omega) (by decide) ?_
    refine a_istore_n cx dX3_fetches_20 (Nat.le_of_ble_eq_true rfl) rfl ?_
    refine a_iload_n cx dX3_fetches_21 rfl ?_
    refine a_iconst cx (v := -1) dX3_fetches_22 (by decide) ?_
    refine a_icmp_ne cx (tgt := 33) dX3_fetches_23 (by decide) (fun c23 => ?_) (fun c23 => ?_)
    · obtain ⟨jj, hj, ej⟩ := (ho.2 d (by omega)).ix c23
      have eA : fetchesA (σ.2 1) (nI d) = (match fch (σ.2 1) jj (nS (σ.2 1)) with
        | none => ((6 : Int32), nI (nS (σ.2 1)), σ.2 1)
        | some k => (0, nI k, upd (upd (σ.2 1) (63 + k) (oI (nearO (σ.2 1) k))) 4 ((σ.2 1) 4 + 1))) := by rw [fetchesA, if_pos p0, oN_nI (show d < 2 ^ 31 by omega), if_neg c23, ej, oN_nI (show jj < 2 ^ 31 by omega)]; cases fch (σ.2 1) jj (nS (σ.2 1)) <;> rfl
      refine a_iconst cx (v := -1) dX3_fetches_33 (by decide) ?_
      refine a_istore_n cx dX3_fetches_34 (Nat.le_of_ble_eq_true rfl) rfl ?_
      refine a_iconst cx (v := 0) dX3_fetches_35 (by decide) ?_
      refine a_istore cx dX3_fetches_36 (Nat.le_of_ble_eq_true rfl) rfl ?_
      have loop : ∀ (j k : Nat) (h : AH), k ≤ nS (σ.2 1) → nS (σ.2 1) < k + j → MSt g ad h0 (σ) h → AW g M 0 0 38 [some (.ref (ad 0)), some (.int (nI d)), some (.int ((σ.2 1) (6 + d))), some (.int (oI (fch (σ.2 1) jj k))), some (.int (nI k))] [] h := by
        intro j
        induction j with
        | zero => intro k h h1 h2; omega
        | succ j ih =>
          intro k h h1 h2 hm
          refine a_iload cx dX3_fetches_38 rfl ?_
          refine a_aload_n cx dX3_fetches_40 rfl ?_
          refine a_get cx fl_X3_7.g dX3_fetches_41 hm.o rfl ?_
          refine a_iconst cx (v := 0) dX3_fetches_44 (by decide) ?_
          refine a_iald cx dX3_fetches_45 hm.a1 (show (0 : Int32) = nI 0 from rfl) (by omega) (by decide) ?_
          refine AW.topi hw1 ?_
          refine a_icmp_ge cx (tgt := 88) dX3_fetches_46 (by decide) (fun c46 => ?_) (fun c46 => ?_)
          · have d46 := le_nI c46 (by omega) (by omega)
            have e46 : k = nS (σ.2 1) := by omega
            subst e46
            refine a_iload_n cx dX3_fetches_88 rfl ?_
            refine a_iconst cx (v := -1) dX3_fetches_89 (by decide) ?_
            refine a_icmp_ne cx (tgt := 106) dX3_fetches_90 (by decide) (fun c90 => ?_) (fun c90 => ?_)
            · obtain ⟨b, hb⟩ : ∃ b, fch (σ.2 1) jj (nS (σ.2 1)) = some b := by
                cases hq : fch (σ.2 1) jj (nS (σ.2 1)) with
                | none => rw [hq] at c90; exact absurd rfl c90
                | some b => exact ⟨b, rfl⟩
              have hbk := fch_lt hb
              rw [hb] at eA
              have eb : oI (fch (σ.2 1) jj (nS (σ.2 1))) = nI b := by rw [hb]; rfl
              refine a_aload_n cx dX3_fetches_106 rfl ?_
              refine a_get cx fl_X3_7.g dX3_fetches_107 hm.o rfl ?_
              refine a_bipush cx (v := 63) dX3_fetches_110 (by decide) ?_
              refine a_iload_n cx dX3_fetches_112 rfl ?_
              refine AW.topi eb ?_
              refine a_iadd cx dX3_fetches_113 ?_
              refine a_aload_n cx dX3_fetches_114 rfl ?_
              refine a_iload_n cx dX3_fetches_115 rfl ?_
              refine AW.topi eb ?_
              refine m_calli cx (k3_nearestOf cx.htr (by omega) hw) (lw_V q2165 q2167 qs46 q87 q2168) dn_X3_nearestOf (RN.of rfl rfl rfl rfl) rfl hm rfl rfl (Nat.le_of_ble_eq_true rfl) dX3_fetches_116 (Nat.zero_le _) (Nat.zero_le _) (fun h hm => ?_)
              refine m_iast cx (i := 0) (by decide) dX3_fetches_119 hm (ix3 _) (show _ < 93 from by omega) (fun h hm => ?_)
              refine a_aload_n cx dX3_fetches_120 rfl ?_
              refine a_get cx fl_X3_7.g dX3_fetches_121 hm.o rfl ?_
              refine a_iconst cx (v := 4) dX3_fetches_124 (by decide) ?_
              refine a_dup2 cx dX3_fetches_125 rfl rfl ?_
              refine a_iald cx dX3_fetches_126 hm.a1 (show (4 : Int32) = nI 4 from rfl) (by omega) (by decide) ?_
              refine AW.topi (show _ = (σ.2 1) 4 from by rw [ma_at, upd_n (by omega)]) ?_
              refine a_iconst cx (v := 1) dX3_fetches_127 (by decide) ?_
              refine a_iadd cx dX3_fetches_128 ?_
              refine m_iast cx (i := 0) (by decide) dX3_fetches_129 hm (show (4 : Int32) = nI 4 from rfl) (show _ < 93 from by omega) (fun h hm => ?_)
              try simp only [ma_at, ma_ma] at hm
              refine a_aload_n cx dX3_fetches_130 rfl ?_
              refine a_iload_n cx dX3_fetches_131 rfl ?_
              refine AW.topi eb ?_
              refine m_calli cx (k3_done cx.htr) (lw_V q2085 q2087 qs32 q87 q2088) dn_X3_done (RN.of rfl rfl rfl rfl) rfl hm rfl rfl (Nat.le_of_ble_eq_true rfl) dX3_fetches_132 (Nat.zero_le _) (Nat.zero_le _) (fun h hm => ?_)
              exact a_iret cx hq dX3_fetches_135 ⟨_, ⟨by rw [eA], AR.done ((SX.rf σ).s) eA⟩, hm⟩ (Nat.zero_le _) (Nat.zero_le _)
            · have hn : fch (σ.2 1) jj (nS (σ.2 1)) = none := (oI_m1 (fun b hb => by have := fch_lt hb; omega)).mp c90
              rw [hn] at eA
              refine a_aload_n cx dX3_fetches_93 rfl ?_
              refine a_bipush cx (v := 6) dX3_fetches_94 (by decide) ?_
              refine a_aload_n cx dX3_fetches_96 rfl ?_
              refine a_get cx fl_X3_7.g dX3_fetches_97 hm.o rfl ?_
              refine a_iconst cx (v := 0) dX3_fetches_100 (by decide) ?_
              refine a_iald cx dX3_fetches_101 hm.a1 (show (0 : Int32) = nI 0 from rfl) (by omega) (by decide) ?_
              refine AW.topi hw1 ?_
              refine m_calli cx (k3_refused cx.htr) (lw_V q2070 q2072 qs29 q87 q2073) dn_X3_refused (RN.of rfl rfl rfl rfl) rfl hm rfl rfl (Nat.le_of_ble_eq_true rfl) dX3_fetches_102 (Nat.zero_le _) (Nat.zero_le _) (fun h hm => ?_)
              exact a_iret cx hq dX3_fetches_105 ⟨_, ⟨by rw [eA], AR.ref (SX.rf σ) eA (by decide)⟩, hm⟩ (Nat.zero_le _) (Nat.zero_le _)
          · have d46 := nle_nI c46 (by omega) (by omega)
            refine a_aload_n cx dX3_fetches_49 rfl ?_
            refine a_iload cx dX3_fetches_50 rfl ?_
            refine m_calli cx (k3_isStray cx.htr (by omega) hw (ho.1 k (by omega))) (lw_V q2169 q2171 qs47 q87 q2172) dn_X3_isStray (RN.of rfl rfl rfl rfl) rfl hm rfl rfl (Nat.le_of_ble_eq_true rfl) dX3_fetches_52 (Nat.zero_le _) (Nat.zero_le _) (fun h hm => ?_)
            refine a_if_eq cx (tgt := 82) dX3_fetches_55 (by decide) (fun c55 => ?_) (fun c55 => ?_)
            · have p55 := (bI_0 _).mp c55
              have r : fch (σ.2 1) jj (k + 1) = fch (σ.2 1) jj k := by rw [fch]; cases fch (σ.2 1) jj k with
                | none => exact if_neg (by rw [p55]; decide)
                | some b => exact if_neg (fun q => by rw [p55] at q; exact absurd q.1 (by decide))
              refine a_iincN cx dX3_fetches_82 rfl (Nat.le_of_ble_eq_true rfl) rfl ?_
              refine a_goto cx (tgt := 38) dX3_fetches_85 (by decide) ?_
              have q9 := ih (k + 1) h (by omega) (by omega) hm
              rw [r] at q9
              exact q9
            · have p55 := bI_n0 c55
              refine a_iload_n cx dX3_fetches_58 rfl ?_
              refine a_iconst cx (v := -1) dX3_fetches_59 (by decide) ?_
              refine a_icmp_eq cx (tgt := 79) dX3_fetches_60 (by decide) (fun c60 => ?_) (fun c60 => ?_)
              · have hn : fch (σ.2 1) jj k = none := (oI_m1 (fun b hb => by have := fch_lt hb; omega)).mp c60
                have r : fch (σ.2 1) jj (k + 1) = some k := by rw [fch, hn]; exact if_pos p55
                refine a_iload cx dX3_fetches_79 rfl ?_
                refine a_istore_n cx dX3_fetches_81 (Nat.le_of_ble_eq_true rfl) rfl ?_
                refine a_iincN cx dX3_fetches_82 rfl (Nat.le_of_ble_eq_true rfl) rfl ?_
                refine a_goto cx (tgt := 38) dX3_fetches_85 (by decide) ?_
                have q9 := ih (k + 1) h (by omega) (by omega) hm
                rw [r] at q9
                exact q9
              · obtain ⟨b, hb⟩ : ∃ b, fch (σ.2 1) jj k = some b := by
                  cases hq : fch (σ.2 1) jj k with
                  | none => rw [hq] at c60; exact absurd rfl c60
                  | some b => exact ⟨b, rfl⟩
                have hbk := fch_lt hb
                refine a_aload_n cx dX3_fetches_63 rfl ?_
                refine a_iload cx dX3_fetches_64 rfl ?_
                refine a_iload_n cx dX3_fetches_66 rfl ?_
                refine AW.topi ej ?_
                refine m_calli cx (k3_far cx.htr (by omega) (by omega)) (lw_V q2161 q2163 qs45 q87 q2164) dn_X3_far (RN.of rfl rfl rfl rfl) rfl hm rfl rfl (Nat.le_of_ble_eq_true rfl) dX3_fetches_67 (Nat.zero_le _) (Nat.zero_le _) (fun h hm => ?_)
                refine a_aload_n cx dX3_fetches_70 rfl ?_
                refine a_iload_n cx dX3_fetches_71 rfl ?_
                refine AW.topi (show oI (fch (σ.2 1) jj k) = nI b by rw [hb]; rfl) ?_
                refine a_iload_n cx dX3_fetches_72 rfl ?_
                refine AW.topi ej ?_
                refine m_calli cx (k3_far cx.htr (by omega) (by omega)) (lw_V q2161 q2163 qs45 q87 q2164) dn_X3_far (RN.of rfl rfl rfl rfl) rfl hm rfl rfl (Nat.le_of_ble_eq_true rfl) dX3_fetches_73 (Nat.zero_le _) (Nat.zero_le _) (fun h hm => ?_)
                refine a_icmp_ge cx (tgt := 82) dX3_fetches_76 (by decide) (fun c76 => ?_) (fun c76 => ?_)
                · have r : fch (σ.2 1) jj (k + 1) = fch (σ.2 1) jj k := by rw [fch, hb]; exact if_neg (fun q => absurd q.2 (Int32.not_lt.mpr c76))
                  refine a_iincN cx dX3_fetches_82 rfl (Nat.le_of_ble_eq_true rfl) rfl ?_
                  refine a_goto cx (tgt := 38) dX3_fetches_85 (by decide) ?_
                  have q9 := ih (k + 1) h (by omega) (by omega) hm
                  rw [r] at q9
                  exact q9
                · have r : fch (σ.2 1) jj (k + 1) = some k := by rw [fch, hb]; exact if_pos ⟨p55, Int32.not_le.mp c76⟩
                  refine a_iload cx dX3_fetches_79 rfl ?_
                  refine a_istore_n cx dX3_fetches_81 (Nat.le_of_ble_eq_true rfl) rfl ?_
                  refine a_iincN cx dX3_fetches_82 rfl (Nat.le_of_ble_eq_true rfl) rfl ?_
                  refine a_goto cx (tgt := 38) dX3_fetches_85 (by decide) ?_
                  have q9 := ih (k + 1) h (by omega) (by omega) hm
                  rw [r] at q9
                  exact q9
      exact loop (nS (σ.2 1) + 1 - 0) 0 h (by omega) (by omega) hm
    · have eA : fetchesA (σ.2 1) (nI d) = (5, nI d, σ.2 1) := by rw [fetchesA, if_pos p0, oN_nI (by omega), if_pos c23]
      refine a_aload_n cx dX3_fetches_26 rfl ?_
      refine a_iconst cx (v := 5) dX3_fetches_27 (by decide) ?_
      refine a_iload_n cx dX3_fetches_28 rfl ?_
      refine m_calli cx (k3_refused cx.htr) (lw_V q2070 q2072 qs29 q87 q2073) dn_X3_refused (RN.of rfl rfl rfl rfl) rfl hm rfl rfl (Nat.le_of_ble_eq_true rfl) dX3_fetches_29 (Nat.zero_le _) (Nat.zero_le _) (fun h hm => ?_)
      exact a_iret cx hq dX3_fetches_32 ⟨_, ⟨by rw [eA], AR.ref (SX.rf σ) eA (by decide)⟩, hm⟩ (Nat.zero_le _) (Nat.zero_le _)
  · have eA : fetchesA (σ.2 1) u = (-1, 0, σ.2 1) := if_neg (fun q => by have h9 := (bI_0 _).mp c6; rw [q] at h9; cases h9)
    refine a_iconst cx (v := -1) dX3_fetches_9 (by decide) ?_
    exact a_iret cx hq dX3_fetches_10 ⟨_, ⟨by rw [eA], AR.thr eA (by decide)⟩, hm⟩ (Nat.zero_le _) (Nat.zero_le _)
abbrev rm_X3_goes : Room := { frames := 2, cells := 0, slots := 0, locals := 43 }
set_option maxHeartbeats 4000000 in
theorem k3_goes {l : Launch} {g : GP} {ad : Nat → Nat} {σ : MS} (htr : l.stackTraces = false) {u : Int32} (hw : WS (σ.2 1)) : MK l g ad yX3_goes cX3_goes 5 (some .int) rm_X3_goes σ [.int u] (fun v σ' => v = some (.int (goesA (σ.2 1) u).1) ∧ AR σ σ' (goesA (σ.2 1) u)) := by
  refine MK.of (by decide +kernel) htr (Nat.le_of_ble_eq_true rfl) (L0 := [some (.ref (ad 0)), some (.int u), none, none, none]) rfl ?_
  intro M h0 h cx _ hq hm
  obtain ⟨hw1, hw2, hw3, hw4⟩ := id hw
  refine a_aload_n cx dX3_goes_0 rfl ?_
  refine a_iload_n cx dX3_goes_1 rfl ?_
  refine m_calli cx (k3_isSheep cx.htr hw) (lw_V q2121 q2123 qs39 q87 q2124) dn_X3_isSheep (RN.of rfl rfl rfl rfl) rfl hm rfl rfl (Nat.le_of_ble_eq_true rfl) dX3_goes_2 (Nat.zero_le _) (Nat.zero_le _) (fun h hm => ?_)
  refine a_if_ne cx (tgt := 10) dX3_goes_5 (by decide) (fun c5 => ?_) (fun c5 => ?_)
  · have p0 := bI_n0 c5
    obtain ⟨i, hi, rfl⟩ := (isIx_iff (by omega)).mp p0
    have eA : goesA (σ.2 1) (nI i) = (0, (σ.2 1) (63 + i), goesS (σ.2 1) i) := by rw [goesA, if_pos p0, oN_nI (by omega)]
    refine a_aload_n cx dX3_goes_10 rfl ?_
    refine a_get cx fl_X3_7.g dX3_goes_11 hm.o rfl ?_
    refine a_bipush cx (v := 63) dX3_goes_14 (by decide) ?_
    refine a_iload_n cx dX3_goes_16 rfl ?_
    refine a_iadd cx dX3_goes_17 ?_
    refine a_iald cx dX3_goes_18 hm.a1 (ix3 _) (by omega) (by decide) ?_
    refine a_istore_n cx dX3_goes_19 (Nat.le_of_ble_eq_true rfl) rfl ?_
    refine a_aload_n cx dX3_goes_20 rfl ?_
    refine a_get cx fl_X3_7.g dX3_goes_21 hm.o rfl ?_
    refine a_iconst cx (v := 0) dX3_goes_24 (by decide) ?_
    refine a_iald cx dX3_goes_25 hm.a1 (show (0 : Int32) = nI 0 from rfl) (by omega) (by decide) ?_
    refine AW.topi hw1 ?_
    refine a_iconst cx (v := 1) dX3_goes_26 (by decide) ?_
    refine a_isub cx dX3_goes_27 ?_
    refine AW.topi (nI_p (by omega) (by omega)) ?_
    refine a_istore_n cx dX3_goes_28 (Nat.le_of_ble_eq_true rfl) rfl ?_
    refine a_iload_n cx dX3_goes_29 rfl ?_
    refine a_istore cx dX3_goes_30 (Nat.le_of_ble_eq_true rfl) rfl ?_
    have loop32 : ∀ (j c : Nat) (h : AH), i + c ≤ nS (σ.2 1) - 1 → nS (σ.2 1) - 1 < i + c + j → MSt g ad h0 (ma σ 1 (goesL (σ.2 1) i c)) h → AW g M 0 0 32 [some (.ref (ad 0)), some (.int (nI i)), some (.int ((σ.2 1) (63 + i))), some (.int (nI (nS (σ.2 1) - 1))), some (.int (nI (i + c)))] [] h := by
      intro j
      induction j with
      | zero => intro c h h1 h2; omega
      | succ j ih =>
        intro c h h1 h2 hm
        refine a_iload cx dX3_goes_32 rfl ?_
        refine a_iload_n cx dX3_goes_34 rfl ?_
        refine a_icmp_ge cx (tgt := 132) dX3_goes_35 (by decide) (fun c35 => ?_) (fun c35 => ?_)
        · have d35 := le_nI c35 (by omega) (by omega)
          obtain rfl : c = nS (σ.2 1) - 1 - i := by omega
          refine a_aload_n cx dX3_goes_132 rfl ?_
          refine a_get cx fl_X3_7.g dX3_goes_133 hm.o rfl ?_
          refine a_bipush cx (v := 9) dX3_goes_136 (by decide) ?_
          refine a_iload_n cx dX3_goes_138 rfl ?_
          refine a_iadd cx dX3_goes_139 ?_
          refine a_iconst cx (v := 0) dX3_goes_140 (by decide) ?_
          refine m_iast cx (i := 0) (by decide) dX3_goes_141 hm (ix0 _) (show _ < 93 from by omega) (fun h hm => ?_)
          refine a_aload_n cx dX3_goes_142 rfl ?_
          refine a_get cx fl_X3_7.g dX3_goes_143 hm.o rfl ?_
          refine a_bipush cx (v := 27) dX3_goes_146 (by decide) ?_
          refine a_iload_n cx dX3_goes_148 rfl ?_
          refine a_iadd cx dX3_goes_149 ?_
          refine a_iconst cx (v := 0) dX3_goes_150 (by decide) ?_
          refine m_iast cx (i := 0) (by decide) dX3_goes_151 hm (ix1 _) (show _ < 93 from by omega) (fun h hm => ?_)
          refine a_aload_n cx dX3_goes_152 rfl ?_
          refine a_get cx fl_X3_7.g dX3_goes_153 hm.o rfl ?_
          refine a_bipush cx (v := 45) dX3_goes_156 (by decide) ?_
          refine a_iload_n cx dX3_goes_158 rfl ?_
          refine a_iadd cx dX3_goes_159 ?_
          refine a_iconst cx (v := 0) dX3_goes_160 (by decide) ?_
          refine m_iast cx (i := 0) (by decide) dX3_goes_161 hm (ix2 _) (show _ < 93 from by omega) (fun h hm => ?_)
          refine a_aload_n cx dX3_goes_162 rfl ?_
          refine a_get cx fl_X3_7.g dX3_goes_163 hm.o rfl ?_
          refine a_bipush cx (v := 63) dX3_goes_166 (by decide) ?_
          refine a_iload_n cx dX3_goes_168 rfl ?_
          refine a_iadd cx dX3_goes_169 ?_
          refine a_iconst cx (v := 0) dX3_goes_170 (by decide) ?_
          refine m_iast cx (i := 0) (by decide) dX3_goes_171 hm (ix3 _) (show _ < 93 from by omega) (fun h hm => ?_)
          refine a_aload_n cx dX3_goes_172 rfl ?_
          refine a_get cx fl_X3_7.g dX3_goes_173 hm.o rfl ?_
          refine a_iconst cx (v := 0) dX3_goes_176 (by decide) ?_
          refine a_iload_n cx dX3_goes_177 rfl ?_
          refine m_iast cx (i := 0) (by decide) dX3_goes_178 hm (show (0 : Int32) = nI 0 from rfl) (show _ < 93 from by omega) (fun h hm => ?_)
          try simp only [ma_at, ma_ma] at hm
          refine a_aload_n cx dX3_goes_179 rfl ?_
          refine a_iload_n cx dX3_goes_180 rfl ?_
          refine m_calli cx (k3_done cx.htr) (lw_V q2085 q2087 qs32 q87 q2088) dn_X3_done (RN.of rfl rfl rfl rfl) rfl hm rfl rfl (Nat.le_of_ble_eq_true rfl) dX3_goes_181 (Nat.zero_le _) (Nat.zero_le _) (fun h hm => ?_)
          exact a_iret cx hq dX3_goes_184 ⟨_, ⟨by rw [eA], AR.done ((SX.rf σ).s (t := goesS (σ.2 1) i)) eA⟩, hm⟩ (Nat.zero_le _) (Nat.zero_le _)
        · have d35 := nle_nI c35 (by omega) (by omega)
          refine a_aload_n cx dX3_goes_38 rfl ?_
          refine a_get cx fl_X3_7.g dX3_goes_39 hm.o rfl ?_
          refine a_bipush cx (v := 9) dX3_goes_42 (by decide) ?_
          refine a_iload cx dX3_goes_44 rfl ?_
          refine a_iadd cx dX3_goes_46 ?_
          refine a_aload_n cx dX3_goes_47 rfl ?_
          refine a_get cx fl_X3_7.g dX3_goes_48 hm.o rfl ?_
          refine a_bipush cx (v := 9) dX3_goes_51 (by decide) ?_
          refine a_iload cx dX3_goes_53 rfl ?_
          refine a_iadd cx dX3_goes_55 ?_
          refine a_iconst cx (v := 1) dX3_goes_56 (by decide) ?_
          refine a_iadd cx dX3_goes_57 ?_
          refine AW.topi (show (9 : Int32) + nI (i + c) + 1 = nI (9 + (i + c) + 1) from by rw [show (9 : Int32) + nI (i + c) = nI (9 + (i + c)) from nI_add 9 (i + c)]; exact nI_1 _) ?_
          refine a_iald cx dX3_goes_58 hm.a1 rfl (by omega) (by decide) ?_
          refine m_iast cx (i := 0) (by decide) dX3_goes_59 hm (ix0 _) (show _ < 93 from by omega) (fun h hm => ?_)
          refine a_aload_n cx dX3_goes_60 rfl ?_
          refine a_get cx fl_X3_7.g dX3_goes_61 hm.o rfl ?_
          refine a_bipush cx (v := 27) dX3_goes_64 (by decide) ?_
          refine a_iload cx dX3_goes_66 rfl ?_
          refine a_iadd cx dX3_goes_68 ?_
          refine a_aload_n cx dX3_goes_69 rfl ?_
          refine a_get cx fl_X3_7.g dX3_goes_70 hm.o rfl ?_
          refine a_bipush cx (v := 27) dX3_goes_73 (by decide) ?_
          refine a_iload cx dX3_goes_75 rfl ?_
          refine a_iadd cx dX3_goes_77 ?_
          refine a_iconst cx (v := 1) dX3_goes_78 (by decide) ?_
          refine a_iadd cx dX3_goes_79 ?_
          refine AW.topi (show (27 : Int32) + nI (i + c) + 1 = nI (27 + (i + c) + 1) from by rw [show (27 : Int32) + nI (i + c) = nI (27 + (i + c)) from nI_add 27 (i + c)]; exact nI_1 _) ?_
          refine a_iald cx dX3_goes_80 hm.a1 rfl (by omega) (by decide) ?_
          refine m_iast cx (i := 0) (by decide) dX3_goes_81 hm (ix1 _) (show _ < 93 from by omega) (fun h hm => ?_)
          refine a_aload_n cx dX3_goes_82 rfl ?_
          refine a_get cx fl_X3_7.g dX3_goes_83 hm.o rfl ?_
          refine a_bipush cx (v := 45) dX3_goes_86 (by decide) ?_
          refine a_iload cx dX3_goes_88 rfl ?_
          refine a_iadd cx dX3_goes_90 ?_
          refine a_aload_n cx dX3_goes_91 rfl ?_
          refine a_get cx fl_X3_7.g dX3_goes_92 hm.o rfl ?_
          refine a_bipush cx (v := 45) dX3_goes_95 (by decide) ?_
          refine a_iload cx dX3_goes_97 rfl ?_
          refine a_iadd cx dX3_goes_99 ?_
          refine a_iconst cx (v := 1) dX3_goes_100 (by decide) ?_
          refine a_iadd cx dX3_goes_101 ?_
          refine AW.topi (show (45 : Int32) + nI (i + c) + 1 = nI (45 + (i + c) + 1) from by rw [show (45 : Int32) + nI (i + c) = nI (45 + (i + c)) from nI_add 45 (i + c)]; exact nI_1 _) ?_
          refine a_iald cx dX3_goes_102 hm.a1 rfl (by omega) (by decide) ?_
          refine m_iast cx (i := 0) (by decide) dX3_goes_103 hm (ix2 _) (show _ < 93 from by omega) (fun h hm => ?_)
          refine a_aload_n cx dX3_goes_104 rfl ?_
          refine a_get cx fl_X3_7.g dX3_goes_105 hm.o rfl ?_
          refine a_bipush cx (v := 63) dX3_goes_108 (by decide) ?_
          refine a_iload cx dX3_goes_110 rfl ?_
          refine a_iadd cx dX3_goes_112 ?_
          refine a_aload_n cx dX3_goes_113 rfl ?_
          refine a_get cx fl_X3_7.g dX3_goes_114 hm.o rfl ?_
          refine a_bipush cx (v := 63) dX3_goes_117 (by decide) ?_
          refine a_iload cx dX3_goes_119 rfl ?_
          refine a_iadd cx dX3_goes_121 ?_
          refine a_iconst cx (v := 1) dX3_goes_122 (by decide) ?_
          refine a_iadd cx dX3_goes_123 ?_
          refine AW.topi (show (63 : Int32) + nI (i + c) + 1 = nI (63 + (i + c) + 1) from by rw [show (63 : Int32) + nI (i + c) = nI (63 + (i + c)) from nI_add 63 (i + c)]; exact nI_1 _) ?_
          refine a_iald cx dX3_goes_124 hm.a1 rfl (by omega) (by decide) ?_
          refine m_iast cx (i := 0) (by decide) dX3_goes_125 hm (ix3 _) (show _ < 93 from by omega) (fun h hm => ?_)
          refine a_iincN cx dX3_goes_126 rfl (Nat.le_of_ble_eq_true rfl) rfl ?_
          refine a_goto cx (tgt := 32) dX3_goes_129 (by decide) ?_
          exact ih (c + 1) h (by omega) (by omega) (hm.eq (by simp only [ma_at, ma_ma]; rfl))
    exact loop32 (nS (σ.2 1)) 0 h (by omega) (by omega) (hm.eq (by exact (ma_self _ _).symm))
  · have eA : goesA (σ.2 1) u = (-1, 0, σ.2 1) := if_neg (fun q => by have h9 := (bI_0 _).mp c5; rw [q] at h9; cases h9)
    refine a_iconst cx (v := -1) dX3_goes_8 (by decide) ?_
    exact a_iret cx hq dX3_goes_9 ⟨_, ⟨by rw [eA], AR.thr eA (by decide)⟩, hm⟩ (Nat.zero_le _) (Nat.zero_le _)
