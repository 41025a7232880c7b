/-! THE PARSER: an order -/
set_option maxRecDepth 100000
def nN (l : List Nat) : Nat := (nmO l).toNatClampNeg
theorem nm_cases (l : List Nat) : nmO l = -1 ∨ ∃ n, n ≤ 3 ∧ nmO l = nI n := by
  unfold nmO
  by_cases h1 : l = ltr 8
  · rw [if_pos h1]; exact Or.inr ⟨0, by omega, rfl⟩
  · rw [if_neg h1]
    by_cases h2 : l = ltr 4 ∨ l = ltr 5 ∨ l = ltr 9 ∨ l = ltr 11
    · rw [if_pos h2]; exact Or.inr ⟨1, by omega, rfl⟩
    · rw [if_neg h2]
      by_cases h3 : l = ltr 3 ∨ l = ltr 10
      · rw [if_pos h3]; exact Or.inr ⟨2, by omega, rfl⟩
      · rw [if_neg h3]
        by_cases h4 : l = ltr 2 ∨ l = ltr 6
        · rw [if_pos h4]; exact Or.inr ⟨3, by omega, rfl⟩
        · rw [if_neg h4]; exact Or.inl rfl
/-- a word read well is one that takes numbers -/
theorem wrd_nm {s : List Nat} : ∀ {m : Nat} {l : List Nat} {p : Nat}, (wrd s m l p).2.1 = false → ¬ nmO (wrd s m l p).2.2 = -1 := by
  intro m
  induction m with
  | zero => intro l p h; cases h
  | succ m ih =>
    intro l p h
    rw [wrd] at h ⊢
    by_cases h1 : nmO l = -1
    · rw [if_pos h1] at h ⊢
      by_cases h2 : p < s.length ∧ hasB (l ++ [s.getD p 0]) = true
      · rw [if_pos h2] at h ⊢; exact ih h
      · rw [if_neg h2] at h; cases h
    · rw [if_neg h1]; exact h1
theorem nN_ok {l : List Nat} (h : ¬ nmO l = -1) : nmO l = nI (nN l) ∧ nN l ≤ 3 := by
  obtain ⟨n, hn, e⟩ := (nm_cases l).resolve_left h
  unfold nN
  rw [e, nI_clamp (by omega)]
  exact ⟨rfl, hn⟩
/-- an order: where it ends, is it wrong, its word, its numbers -/
def orw (s : List Nat) (p : Nat) : Nat × Bool × List Nat × List Int32 :=
  if (wrd s 8 [] p).2.1 = true then ((wrd s 8 [] p).1, true, [], []) else ((nums (cT s) s.length (nN (wrd s 8 [] p).2.2) (wrd s 8 [] p).1).1, (nums (cT s) s.length (nN (wrd s 8 [] p).2.2) (wrd s 8 [] p).1).2.1, (wrd s 8 [] p).2.2, (nums (cT s) s.length (nN (wrd s 8 [] p).2.2) (wrd s 8 [] p).1).2.2)
theorem nums_f {s : List Nat} {n p : Nat} (h : (nbs s p).2.1 = true) : nums (cT s) s.length (n + 1) p = ((nbs s p).1, true, []) := by
  rw [nums]
  exact if_pos h
theorem nums_t {s : List Nat} {n p : Nat} (h : (nbs s p).2.1 = false) : nums (cT s) s.length (n + 1) p = ((nums (cT s) s.length n (nbs s p).1).1, (nums (cT s) s.length n (nbs s p).1).2.1, (nbs s p).2.2 :: (nums (cT s) s.length n (nbs s p).1).2.2) := by
  rw [nums]
  exact if_neg (by rw [show (numb (cT s) s.length p).2.1 = false from h]; decide)
/-- an Order stands at o -/
def OrdAt (g : GP) (h : AH) (o : Nat) (l : List Nat) (ns : List Int32) : Prop :=
  ∃ w wb pr fn, h o = some (eO 5 [.ref w, .ref pr]) ∧ h w = some (eO 15 [.ref wb, .int 0, .int (shash l), .int (zf l)]) ∧ h wb = some (eI (g.2.1 1) l.length (sCh l)) ∧ h pr = some (eI (g.2.1 0) ns.length fn) ∧ ∀ i, i < ns.length → fn i = ns.getD i 0
theorem OrdAt.up {g : GP} {h h' : AH} {o : Nat} {l : List Nat} {ns : List Int32} (hO : OrdAt g h o l ns) (hs : sub h h') : OrdAt g h' o l ns := by
  obtain ⟨w, wb, pr, fn, h1, h2, h3, h4, h5⟩ := hO
  exact ⟨w, wb, pr, fn, hs _ _ h1, hs _ _ h2, hs _ _ h3, hs _ _ h4, h5⟩
theorem wrd_le {s : List Nat} : ∀ (m : Nat) (l : List Nat) (p : Nat), p ≤ s.length → (wrd s m l p).1 ≤ s.length := by
  intro m
  induction m with
  | zero => intro l p h; exact h
  | succ m ih =>
    intro l p h
    rw [wrd]
    by_cases h1 : nmO l = -1
    · rw [if_pos h1]
      by_cases h2 : p < s.length ∧ hasB (l ++ [s.getD p 0]) = true
      · rw [if_pos h2]; exact ih _ _ (by omega)
      · rw [if_neg h2]; exact h
    · rw [if_neg h1]; exact h
abbrev rm_X12_order : Room := { frames := 16, cells := 200, slots := 22700, locals := 460 }
set_option maxHeartbeats 4000000 in
theorem f12_order {lx : Launch} {g : GP} {h : AH} (htr : lx.stackTraces = false) {hb : AH} {pa sb b cap p : Nat} {s : List Nat} (hs : sub hb h) (npa : hb pa = none) (hpa : h pa = some (psE sb (nI p))) (hS : SB g hb sb b cap s) (has_ : asc s) (hp31 : p < 2 ^ 20) (hsl : s.length ≤ 64) (hps : p < 2 ^ 19) : KT lx g yX12_order (ws_ yX12_order cX12_order 4 (some (.object "FlockHuts$Order"))) rm_X12_order 200 22700 [.ref pa] h (fun v h' => ∃ o, v = some (.ref o) ∧ (orw s p).2.1 = false ∧ TRI (orw s p).2.2.1 ∧ ¬ nmO (orw s p).2.2.1 = -1 ∧ p ≤ (orw s p).1 ∧ p + (orw s p).2.2.1.length ≤ (orw s p).1 ∧ (p ≤ s.length → (orw s p).1 ≤ s.length) ∧ (orw s p).2.2.2.length = nN (orw s p).2.2.1 ∧ sub hb h' ∧ h' pa = some (psE sb (nI (orw s p).1)) ∧ OrdAt g h' o (orw s p).2.2.1 (orw s p).2.2.2 ∧ hb o = none) (fun E q h' => E = "FlockHuts$SyntaxException" ∧ (orw s p).2.1 = true ∧ sub hb h' ∧ h' pa = some (psE sb (nI (orw s p).1)) ∧ h' q = some (syE (nI (orw s p).1)) ∧ gB g ≤ q) := by
  refine KT.of (by decide +kernel) htr (Nat.le_of_ble_eq_true rfl) (L0 := [some (.ref pa), none, none, none]) rfl ?_
  intro M cx hl9 hq hin hnx
  have hR1 : rm_X12_order.cells = 200 := rfl
  have hR2 : rm_X12_order.slots = 22700 := rfl
  refine a_aload_n cx dX12_order_0 rfl ?_
  refine c_V cx (f12_word cx.htr hs npa hpa hS has_ hp31 hsl) (lw_V q1785 q1787 qs22 q116 q1788) dn_X12_word (RN.of rfl rfl rfl rfl) rfl hpa rfl rfl rfl (Nat.le_of_ble_eq_true rfl) dX12_order_1 (by omega) (by omega) (fun v9 h hp9 => ?_) (fun E9 q9 h9 hx9 => AX.out cx hq hnx ⟨hx9.1, by rw [orw, if_pos hx9.2.1], hx9.2.2.1, by rw [orw, if_pos hx9.2.1]; exact hx9.2.2.2.1, by rw [orw, if_pos hx9.2.1]; exact hx9.2.2.2.2.1, hx9.2.2.2.2.2⟩ (by omega) (by omega))
  obtain ⟨w, wb, rfl, r1, r2, r3, hs1, hpa1, hw1, hwb1⟩ := hp9
  have rn := wrd_nm r1
  have hor := (show orw s p = _ from if_neg (by rw [r1]; decide))
  have hpe : p ≤ s.length → (wrd s 8 [] p).1 ≤ s.length := fun z => wrd_le _ _ _ z
  obtain ⟨l, el⟩ : ∃ z, z = (wrd s 8 [] p).2.2 := ⟨_, rfl⟩
  obtain ⟨p1, ep1⟩ : ∃ z, z = (wrd s 8 [] p).1 := ⟨_, rfl⟩
  rw [← el, ← ep1] at hor
  rw [← el] at r2 r3 rn hw1 hwb1
  rw [← ep1] at r3 hpa1 hpe
  obtain ⟨n1, n2⟩ := nN_ok rn
  have hl6 := r2.len
  obtain ⟨h1, eh1⟩ : ∃ z, z = h := ⟨_, rfl⟩
  rw [← eh1]
  rw [← eh1] at hs1 hpa1 hw1 hwb1
  refine a_astore_n cx dX12_order_4 (Nat.le_of_ble_eq_true rfl) rfl ?_
  refine a_aload_n cx dX12_order_5 rfl ?_
  refine c_S cx (f6_numbers cx.htr hw1 hwb1 r2.asc (Or.inr ⟨rfl, rfl⟩)) (lw_S q1790 q1791 q101 q1792) dn_X6_numbers (RN.of rfl rfl rfl rfl) rfl rfl (Nat.le_of_ble_eq_true rfl) dX12_order_6 (by omega) (by omega) (pK ?_) (fun E9 q9 h9 hx9 => hx9.elim)
  rw [hset_same hw1]
  refine AW.topi n1 ?_
  refine a_newaI cx dX12_order_9 rfl (by omega) (by omega) (by show _ + nN l ≤ 22700; omega) (fun pr n9 hB9 => ?_)
  have hpp : pa ≠ pr := fun z => by rw [z, n9] at hpa1; cases hpa1
  have hwp : w ≠ pr := fun z => by rw [z, n9] at hw1; cases hw1
  have hwbp : wb ≠ pr := fun z => by rw [z, n9] at hwb1; cases hwb1
  have npr : hb pr = none := hs1.none n9
  refine a_astore_n cx dX12_order_11 (Nat.le_of_ble_eq_true rfl) rfl ?_
  refine a_iconst cx (v := 0) dX12_order_12 (by decide) ?_
  refine a_istore_n cx dX12_order_13 (Nat.le_of_ble_eq_true rfl) rfl ?_
  have loop : ∀ (j0 i pi : Nat) (vs : List Int32) (fn : Nat → Int32) (h3 : AH), i ≤ nN l → nN l < i + j0 → vs.length = i → (nums (cT s) s.length (nN l) p1).1 = (nums (cT s) s.length (nN l - i) pi).1 → (nums (cT s) s.length (nN l) p1).2.1 = (nums (cT s) s.length (nN l - i) pi).2.1 → ((nums (cT s) s.length (nN l - i) pi).2.1 = false → (nums (cT s) s.length (nN l) p1).2.2 = vs ++ (nums (cT s) s.length (nN l - i) pi).2.2) → p1 ≤ pi → (p ≤ s.length → pi ≤ s.length) → pi < 2 ^ 20 → sub hb h3 → h3 pa = some (psE sb (nI pi)) → h3 w = some (eO 15 [.ref wb, .int 0, .int (shash l), .int (zf l)]) → h3 wb = some (eI (g.2.1 1) l.length (sCh l)) → h3 pr = some (eI (g.2.1 0) (nN l) fn) → (∀ j, j < i → fn j = vs.getD j 0) → AW g M (181 + 4 * i) (22503 + 40 * i) 14 [some (.ref pa), some (.ref w), some (.ref pr), some (.int (nI i))] [] h3 := by
    intro j0
    induction j0 with
    | zero => intro i pi vs fn h3 b1 b2; omega
    | succ j0 ih =>
      intro i pi vs fn h3 z1 z2 z3 z4 z5 z6 z7 z8 z9 hs3 hpa3 hw3 hwb3 hpr3 hfn
      refine a_iload_n cx dX12_order_14 rfl ?_
      refine a_aload_n cx dX12_order_15 rfl ?_
      refine a_alen0 cx dX12_order_16 hpr3 ?_
      refine a_icmp_ge cx (tgt := 33) dX12_order_17 (by decide) (fun c17 => ?_) (fun c17 => ?_)
      · have d17 : i = nN l := by have := le_nI c17 (by omega) (by omega); omega
        subst d17
        rw [Nat.sub_self] at z4 z5 z6
        have w4 : (nums (cT s) s.length (nN l) p1).1 = pi := z4
        have w5 : (nums (cT s) s.length (nN l) p1).2.1 = false := z5
        have w6 : (nums (cT s) s.length (nN l) p1).2.2 = vs := (z6 rfl).trans (List.append_nil _)
        rw [w4, w5, w6] at hor
        refine a_new cx nl_X12_49 dX12_order_33 (by omega) (by omega) (fun o n33 hB33 => ?_)
        refine a_dup cx dX12_order_36 rfl ?_
        refine a_aload_n cx dX12_order_37 rfl ?_
        refine a_aload_n cx dX12_order_38 rfl ?_
        refine c_I cx (f6_init cx.htr (hset_s _ _ _) hB33) (lw_meth q1059) q101 q1910 q1058 rfl dn_X6_init (RN.of rfl rfl rfl rfl) rfl rfl (Nat.le_of_ble_eq_true rfl) dX12_order_39 (by omega) (by omega) (pV ?_) (fun E9 q9 h9 hx9 => hx9.elim)
        rw [hset_hset]
        exact a_aret cx hq dX12_order_42 (Or.inl ⟨_, rfl⟩) ⟨o, rfl, by rw [hor], by rw [hor]; exact r2, by rw [hor]; exact rn, by rw [hor]; show p ≤ pi; omega, by rw [hor]; show p + l.length ≤ pi; omega, by rw [hor]; exact z8, by rw [hor]; exact z3, hs3.set (hs3.none n33), by rw [hor]; exact (hset_n (fun z => by rw [z, n33] at hpa3; cases hpa3)).trans hpa3, by rw [hor]; exact ⟨w, wb, pr, fn, hset_s _ _ _, (hset_n (fun z => by rw [z, n33] at hw3; cases hw3)).trans hw3, (hset_n (fun z => by rw [z, n33] at hwb3; cases hwb3)).trans hwb3, by rw [z3]; exact (hset_n (fun z => by rw [z, n33] at hpr3; cases hpr3)).trans hpr3, fun i2 hi2 => hfn i2 (by have h9 : i2 < vs.length := hi2; omega)⟩, hs3.none n33⟩ (by omega) (by omega)
      · have d17 : i < nN l := nle_nI c17 (by omega) (by omega)
        have e17 : nN l - i = (nN l - (i + 1)) + 1 := by omega
        refine a_aload_n cx dX12_order_20 rfl ?_
        refine a_iload_n cx dX12_order_21 rfl ?_
        refine a_aload_n cx dX12_order_22 rfl ?_
        refine c_V cx (f12_number cx.htr hpa3 (hS.sub hs3) has_ z9) (lw_V q1896 q1898 qs23 q116 q1899) dn_X12_number (RN.of rfl rfl rfl rfl) rfl hpa3 rfl rfl rfl (Nat.le_of_ble_eq_true rfl) dX12_order_23 (by omega) (by omega) (fun v9 h hp9 => ?_) (fun E9 q9 h9 hx9 => AX.out cx hq hnx (by obtain ⟨x1, x2, x3, x4, x5⟩ := hx9; rw [e17, nums_f x5] at z4 z5; rw [hor]; exact ⟨x1, z5, by rw [x4]; exact (hs3.set npa).set (hs3.none x2), by rw [x4, z4]; exact (hset_n (fun z => by rw [← z, hpa3] at x2; cases x2)).trans (hset_s _ _ _), by rw [x4, z4]; exact hset_s _ _ _, x3⟩) (by omega) (by omega))
        obtain ⟨rfl, rfl, r5, r6⟩ := hp9
        rw [e17, nums_t r5] at z4 z5 z6
        have y4 := z4
        have y5 := z5
        have y6 : (nums (cT s) s.length (nN l - (i + 1)) (nbs s pi).1).2.1 = false → (nums (cT s) s.length (nN l) p1).2.2 = (vs ++ [(nbs s pi).2.2]) ++ (nums (cT s) s.length (nN l - (i + 1)) (nbs s pi).1).2.2 := fun z => by rw [List.append_assoc]; exact z6 z
        have y7 : p1 ≤ (nbs s pi).1 := Nat.le_trans z7 numb_le.1
        have y8 : p ≤ s.length → (nbs s pi).1 ≤ s.length := fun _ => r6
        have y9 : (nbs s pi).1 < 2 ^ 20 := by omega
        have hpr4 := (hset_n (e := psE sb (nI (nbs s pi).1)) (Ne.symm hpp)).trans hpr3
        refine a_iast cx dX12_order_26 hpr4 rfl (by omega) (by omega) ?_
        have hs5 := (hs3.set npa (e := psE sb (nI (nbs s pi).1))).set npr (e := eI (g.2.1 0) (nN l) (upd fn i (nbs s pi).2.2))
        have hpa5 := (hset_n (e := eI (g.2.1 0) (nN l) (upd fn i (nbs s pi).2.2)) hpp).trans (hset_s h3 pa (psE sb (nI (nbs s pi).1)))
        have hw5 := (hset_n (e := eI (g.2.1 0) (nN l) (upd fn i (nbs s pi).2.2)) hwp).trans ((hset_n (e := psE sb (nI (nbs s pi).1)) (fun z => by rw [z, hpa3] at hw3; cases hw3)).trans hw3)
        have hwb5 := (hset_n (e := eI (g.2.1 0) (nN l) (upd fn i (nbs s pi).2.2)) hwbp).trans ((hset_n (e := psE sb (nI (nbs s pi).1)) (fun z => by rw [z, hpa3] at hwb3; cases hwb3)).trans hwb3)
        have hfn5 : ∀ j, j < i + 1 → upd fn i (nbs s pi).2.2 j = (vs ++ [(nbs s pi).2.2]).getD j 0 := fun j hj => by
          by_cases e : j = i
          · subst e; rw [upd_s, List.getD_eq_getElem?_getD, List.getElem?_append_right (by omega), z3, Nat.sub_self]; rfl
          · rw [upd_n e, hfn j (by omega), List.getD_eq_getElem?_getD, List.getD_eq_getElem?_getD, List.getElem?_append_left (by omega)]
        refine a_iincN cx dX12_order_27 rfl (Nat.le_of_ble_eq_true rfl) rfl ?_
        refine a_goto cx (tgt := 14) dX12_order_30 (by decide) ?_
        refine AW.widen ?_ ?_ (ih (i + 1) (nbs s pi).1 (vs ++ [(nbs s pi).2.2]) _ _ (by omega) (by omega) (by rw [List.length_append, z3]; rfl) y4 y5 y6 y7 y8 y9 hs5 hpa5 hw5 hwb5 (hset_s _ _ _) hfn5)
        · omega
        · omega
  exact AW.widen (by omega) (by omega) (loop (nN l + 1) 0 p1 [] _ _ (Nat.zero_le _) (by omega) rfl rfl rfl (fun _ => rfl) (Nat.le_refl _) hpe (by omega) (hs1.set npr) ((hset_n hpp).trans hpa1) ((hset_n hwp).trans hw1) ((hset_n hwbp).trans hwb1) (hset_s _ _ _) (fun j hj => absurd hj (Nat.not_lt_zero _)))
