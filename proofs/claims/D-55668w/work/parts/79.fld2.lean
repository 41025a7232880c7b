/-! THE FIELD, 2: sheep and huts come and go -/
set_option maxRecDepth 100000
theorem eQ_ne {c : ClassId} {m m2 : Nat} {f f2 : Nat → Option Nat} (h : m ≠ m2) : eQ c m f ≠ eQ c m2 f2 := fun z => by
  injection z with z; injection z with z1 z2; injection z2 with z3 z4; exact h z3
theorem gD_a {l : List Nat} {x k : Nat} (h : k < l.length) : (l ++ [x]).getD k 0 = l.getD k 0 := by rw [getD_app2, if_pos h]
theorem gD_b {l : List Nat} {x k : Nat} (h : k = l.length) : (l ++ [x]).getD k 0 = x := by rw [getD_app2, if_neg (by omega), if_pos h]
theorem gD_mem {l : List Nat} {x : Nat} (h : x ∈ l) : ∃ k, k < l.length ∧ l.getD k 0 = x := by
  obtain ⟨k, hk, e⟩ := List.getElem_of_mem h
  exact ⟨k, hk, by rw [List.getD_eq_getElem?_getD, List.getElem?_eq_getElem hk]; exact e⟩
theorem nodup_add {l : List Nat} {x : Nat} (h : l.Nodup) (hx : ∀ k, k < l.length → l.getD k 0 ≠ x) : (l ++ [x]).Nodup := by
  rw [List.nodup_append]
  refine ⟨h, List.nodup_cons.mpr ⟨List.not_mem_nil, List.nodup_nil⟩, fun y hy z hz e => ?_⟩
  rw [List.mem_singleton] at hz
  subst hz; subst e
  obtain ⟨k, hk, e⟩ := gD_mem hy
  exact hx k hk e
section FAS2
variable {g : GP} {hb h h' : AH} {f : Nat} {s s' : SF} {a ea : Nat} {ma ma' : Int32} {ca b eb : Nat} {mb mb' : Int32} {cb d : Nat} {ls lh : List Nat}
theorem AL.arr (hl : AL g h a ea ma ca ls) : ∃ fn, h ea = some (eQ (g.2.1 4) ca fn) := by
  obtain ⟨-, ⟨fn, g1, -⟩, -⟩ := hl
  exact ⟨fn, g1⟩
/-- the empty array's place is no list's once there is room -/
theorem AL.ne0 (hl : AL g h a ea ma ca ls) (h0 : 0 < ls.length) {fn : Nat → Option Nat} (kc : h (gs g 0) = some (eQ (g.2.1 4) 0 fn)) : ea ≠ gs g 0 := by
  intro z
  obtain ⟨fn2, g1⟩ := hl.arr
  rw [z, kc] at g1
  exact eQ_ne (by have := hl.2.2.1; omega) (Option.some.inj g1)
theorem FA.comes (hF : FA g hb h f s a ea ma ca b eb mb cb d ls lh) {x : Nat} (hx : h x = some (shE (s' (9 + nS s)) (s' (27 + nS s)) (s' (45 + nS s)) (s' (63 + nS s)))) (hbx : hb x = none) (hxl : ∀ k, k < nS s → ls.getD k 0 ≠ x) (hA : ADD g h a ea ma' ls x h') {fn : Nat → Option Nat} (kc : h' (gs g 0) = some (eQ (g.2.1 4) 0 fn)) (hn : nS s < 18) (h00 : s' 0 = nI (nS s + 1)) (ho : ∀ q, q ≠ 0 → q ≠ 9 + nS s → q ≠ 27 + nS s → q ≠ 45 + nS s → q ≠ 63 + nS s → s' q = s q) :
    ∃ ea' ca', FA g hb h' f s' a ea' ma' ca' b eb mb cb d (ls ++ [x]) lh := by
  obtain ⟨g0, g1, g2, g3, ⟨fd, g4, g5⟩, g6, g7, g8, g9, g10, g11, g12, g13, g14⟩ := hF
  obtain ⟨ea', ca', hA1, hA2, hA3⟩ := hA
  have e0 : nS s' = nS s + 1 := by unfold nS at *; rw [h00]; exact nI_clamp (by omega)
  have e1 := nH_of (ho 1 (by omega) (by omega) (by omega) (by omega) (by omega))
  have hne0 := hA1.ne0 (by rw [List.length_append]; exact Nat.succ_pos _) kc
  obtain ⟨f1, ha1⟩ := g2.arr
  obtain ⟨f2, hb1⟩ := g3.arr
  have hkeep : ∀ q e, h q = some e → q ≠ a → (∀ m fn, e ≠ eQ (g.2.1 4) m fn) → h' q = some e := fun q e hq hqa he => hA3 q e hq hqa (fun z => absurd (Option.some.inj ((z ▸ hq).symm.trans ha1)) (he _ _))
  have hs : sub hb h' := fun q e hq => by
    refine hA3 q e (g0 q e hq) (fun z => ?_) (fun z z2 => ?_)
    · rw [z, g14.2.1] at hq; cases hq
    · rcases g14.2.2.2.2.1 with z3 | z3
      · exact hne0 (z2.trans z3)
      · rw [z, z3] at hq; cases hq
  refine ⟨ea', ca', hs, ?_, hA1, ?_, ⟨fd, hkeep d _ g4 (fun z => by rw [z, g2.1] at g4; cases g4) (fun m fn z => by injection z with z; injection z with z1 z2; injection z2 with z3 z4; cases z4), fun i hi => ?_⟩, by rw [List.length_append, e0, g6]; rfl, by rw [e1]; exact g7, fun k hk => ?_, fun k hk => ?_, nodup_add g10 (fun k hk => hxl k (by omega)), g11, g12, fun z => ?_, g14.1, g14.2.1, g14.2.2.1, g14.2.2.2.1, ?_, g14.2.2.2.2.2.1, fun k hk => ?_, fun k hk => ?_⟩
  · rw [ho 2 (by omega) (by omega) (by omega) (by omega) (by omega), ho 3 (by omega) (by omega) (by omega) (by omega) (by omega), ho 4 (by omega) (by omega) (by omega) (by omega) (by omega), ho 5 (by omega) (by omega) (by omega) (by omega) (by omega)]
    exact hkeep f _ g1 (fun z => by rw [z, g2.1] at g1; cases g1) (fun m fn z => by cases z)
  · refine g3.keep ((hkeep b _ g3.1 (Ne.symm g12) (fun m fn z => by cases z)).trans g3.1.symm) ?_
    refine (hA3 eb _ hb1 (fun z => ?_) (fun z z2 => hne0 (z2.trans (g13 z.symm)))).trans hb1.symm
    rw [z, g2.1] at hb1; cases hb1
  · rw [ho _ (by omega) (by omega) (by omega) (by omega) (by omega)]; exact g5 i hi
  · rw [e0] at hk
    by_cases e : k = nS s
    · subst e
      rw [gD_b g6.symm]
      exact hkeep x _ hx (fun z => by rw [z, g2.1] at hx; cases hx) (fun m fn z => by cases z)
    · rw [gD_a (by omega), ho _ (by omega) (by omega) (by omega) (by omega) (by omega), ho _ (by omega) (by omega) (by omega) (by omega) (by omega), ho _ (by omega) (by omega) (by omega) (by omega) (by omega), ho _ (by omega) (by omega) (by omega) (by omega) (by omega)]
      have hk2 := g8 k (by omega)
      exact hkeep _ _ hk2 (fun z => by rw [z, g2.1] at hk2; cases hk2) (fun m fn z => by cases z)
  · rw [e1] at hk
    rw [ho _ (by omega) (by omega) (by omega) (by omega) (by omega), ho _ (by omega) (by omega) (by omega) (by omega) (by omega)]
    have hk2 := g9 k hk
    exact hkeep _ _ hk2 (fun z => by rw [z, g2.1] at hk2; cases hk2) (fun m fn z => by cases z)
  · rcases hA2 with z2 | z2
    · exact absurd (z2.trans (g13 (z2.symm.trans z))) hne0
    · rw [z, hb1] at z2; cases z2
  · rcases hA2 with z2 | z2
    · rw [z2]; exact g14.2.2.2.2.1
    · exact Or.inr (g0.none z2)
  · rw [e0] at hk
    by_cases e : k = nS s
    · subst e; rw [gD_b g6.symm]; exact hbx
    · rw [gD_a (by omega)]; exact g14.2.2.2.2.2.2.1 k (by omega)
  · rw [e1] at hk; exact g14.2.2.2.2.2.2.2 k hk
theorem FA.sets (hF : FA g hb h f s a ea ma ca b eb mb cb d ls lh) {x : Nat} (hx : h x = some (huE (s' (81 + nH s)) (s' (87 + nH s)))) (hbx : hb x = none) (hxl : ∀ k, k < nH s → lh.getD k 0 ≠ x) (hA : ADD g h b eb mb' lh x h') {fn : Nat → Option Nat} (kc : h' (gs g 0) = some (eQ (g.2.1 4) 0 fn)) (hn : nH s < 6) (hm : nS s ≤ 18) (h00 : s' 1 = nI (nH s + 1)) (ho : ∀ q, q ≠ 1 → q ≠ 81 + nH s → q ≠ 87 + nH s → s' q = s q) :
    ∃ eb' cb', FA g hb h' f s' a ea ma ca b eb' mb' cb' d ls (lh ++ [x]) := by
  obtain ⟨g0, g1, g2, g3, ⟨fd, g4, g5⟩, g6, g7, g8, g9, g10, g11, g12, g13, g14⟩ := hF
  obtain ⟨eb', cb', hA1, hA2, hA3⟩ := hA
  have e1 : nH s' = nH s + 1 := by unfold nH at *; rw [h00]; exact nI_clamp (by omega)
  have e0 := nS_of (ho 0 (by omega) (by omega) (by omega))
  have hne0 := hA1.ne0 (by rw [List.length_append]; exact Nat.succ_pos _) kc
  obtain ⟨f1, ha1⟩ := g2.arr
  obtain ⟨f2, hb1⟩ := g3.arr
  have hkeep : ∀ q e, h q = some e → q ≠ b → (∀ m fn, e ≠ eQ (g.2.1 4) m fn) → h' q = some e := fun q e hq hqa he => hA3 q e hq hqa (fun z => absurd (Option.some.inj ((z ▸ hq).symm.trans hb1)) (he _ _))
  have hs : sub hb h' := fun q e hq => by
    refine hA3 q e (g0 q e hq) (fun z => ?_) (fun z z2 => ?_)
    · rw [z, g14.2.2.1] at hq; cases hq
    · rcases g14.2.2.2.2.2.1 with z3 | z3
      · exact hne0 (z2.trans z3)
      · rw [z, z3] at hq; cases hq
  refine ⟨eb', cb', hs, ?_, ?_, hA1, ⟨fd, hkeep d _ g4 (fun z => by rw [z, g3.1] at g4; cases g4) (fun m fn z => by injection z with z; injection z with z1 z2; injection z2 with z3 z4; cases z4), fun i hi => ?_⟩, by rw [e0]; exact g6, by rw [List.length_append, e1, g7]; rfl, fun k hk => ?_, fun k hk => ?_, g10, nodup_add g11 (fun k hk => hxl k (by omega)), g12, fun z => ?_, g14.1, g14.2.1, g14.2.2.1, g14.2.2.2.1, g14.2.2.2.2.1, ?_, fun k hk => ?_, fun k hk => ?_⟩
  · rw [ho 2 (by omega) (by omega) (by omega), ho 3 (by omega) (by omega) (by omega), ho 4 (by omega) (by omega) (by omega), ho 5 (by omega) (by omega) (by omega)]
    exact hkeep f _ g1 (fun z => by rw [z, g3.1] at g1; cases g1) (fun m fn z => by cases z)
  · refine g2.keep ((hkeep a _ g2.1 g12 (fun m fn z => by cases z)).trans g2.1.symm) ?_
    refine (hA3 ea _ ha1 (fun z => ?_) (fun z z2 => hne0 (z2.trans (z.symm.trans (g13 z))))).trans ha1.symm
    rw [z, g3.1] at ha1; cases ha1
  · rw [ho _ (by omega) (by omega) (by omega)]; exact g5 i hi
  · rw [e0] at hk
    rw [ho _ (by omega) (by omega) (by omega), ho _ (by omega) (by omega) (by omega), ho _ (by omega) (by omega) (by omega), ho _ (by omega) (by omega) (by omega)]
    have hk2 := g8 k hk
    exact hkeep _ _ hk2 (fun z => by rw [z, g3.1] at hk2; cases hk2) (fun m fn z => by cases z)
  · rw [e1] at hk
    by_cases e : k = nH s
    · subst e
      rw [gD_b g7.symm]
      exact hkeep x _ hx (fun z => by rw [z, g3.1] at hx; cases hx) (fun m fn z => by cases z)
    · rw [gD_a (by omega), ho _ (by omega) (by omega) (by omega), ho _ (by omega) (by omega) (by omega)]
      have hk2 := g9 k (by omega)
      exact hkeep _ _ hk2 (fun z => by rw [z, g3.1] at hk2; cases hk2) (fun m fn z => by cases z)
  · rcases hA2 with z2 | z2
    · exact absurd (z2.trans ((z2.symm.trans z.symm).trans (g13 (z.trans z2)))) hne0
    · rw [← z, ha1] at z2; cases z2
  · rcases hA2 with z2 | z2
    · rw [z2]; exact g14.2.2.2.2.2.1
    · exact Or.inr (g0.none z2)
  · rw [e0] at hk; exact g14.2.2.2.2.2.2.1 k hk
  · rw [e1] at hk
    by_cases e : k = nH s
    · subst e; rw [gD_b g7.symm]; exact hbx
    · rw [gD_a (by omega)]; exact g14.2.2.2.2.2.2.2 k (by omega)
theorem nodup_erase {l : List Nat} {i : Nat} (h : l.Nodup) : (l.eraseIdx i).Nodup := h.sublist (List.eraseIdx_sublist l i)
theorem FA.goes (hF : FA g hb h f s a ea ma ca b eb mb cb d ls lh) {i : Nat} (hi : i < nS s) (hR : REM g h a ea ma ca ls i h') {fn : Nat → Option Nat} (kc : h (gs g 0) = some (eQ (g.2.1 4) 0 fn)) (hn : nS s ≤ 18) (h00 : s' 0 = nI (nS s - 1)) (hm : ∀ k, k < nS s - 1 → s' (9 + k) = (if k < i then s (9 + k) else s (9 + k + 1)) ∧ s' (27 + k) = (if k < i then s (27 + k) else s (27 + k + 1)) ∧ s' (45 + k) = (if k < i then s (45 + k) else s (45 + k + 1)) ∧ s' (63 + k) = (if k < i then s (63 + k) else s (63 + k + 1))) (ho : ∀ q, q ≠ 0 → q < 9 ∨ 81 ≤ q → s' q = s q) :
    FA g hb h' f s' a ea (ma + 1) ca b eb mb cb d (ls.eraseIdx i) lh := by
  obtain ⟨g0, g1, g2, g3, ⟨fd, g4, g5⟩, g6, g7, g8, g9, g10, g11, g12, g13, g14⟩ := hF
  obtain ⟨hR1, hR2⟩ := hR
  have e0 : nS s' = nS s - 1 := by unfold nS at *; rw [h00]; exact nI_clamp (by omega)
  have e1 := nH_of (ho 1 (by omega) (by omega))
  have hne0 := g2.ne0 (by omega) kc
  obtain ⟨f1, ha1⟩ := g2.arr
  obtain ⟨f2, hb1⟩ := g3.arr
  have hkeep : ∀ q e, h q = some e → q ≠ a → (∀ m fn, e ≠ eQ (g.2.1 4) m fn) → h' q = some e := fun q e hq hqa he => (hR2 q hqa (fun z => absurd (Option.some.inj ((z ▸ hq).symm.trans ha1)) (he _ _))).trans hq
  have hab : hb ea = none := g14.2.2.2.2.1.resolve_left hne0
  have hs : sub hb h' := fun q e hq => (hR2 q (fun z => by rw [z, g14.2.1] at hq; cases hq) (fun z => by rw [z, hab] at hq; cases hq)).trans (g0 q e hq)
  refine ⟨hs, ?_, hR1, ?_, ⟨fd, hkeep d _ g4 (fun z => by rw [z, g2.1] at g4; cases g4) (fun m fn z => by injection z with z; injection z with z1 z2; injection z2 with z3 z4; cases z4), fun i hi => ?_⟩, by rw [erase_len (by omega), e0, g6], by rw [e1]; exact g7, fun k hk => ?_, fun k hk => ?_, nodup_erase g10, g11, g12, g13, g14.1, g14.2.1, g14.2.2.1, g14.2.2.2.1, g14.2.2.2.2.1, g14.2.2.2.2.2.1, fun k hk => ?_, fun k hk => ?_⟩
  · rw [ho 2 (by omega) (by omega), ho 3 (by omega) (by omega), ho 4 (by omega) (by omega), ho 5 (by omega) (by omega)]
    exact hkeep f _ g1 (fun z => by rw [z, g2.1] at g1; cases g1) (fun m fn z => by cases z)
  · refine g3.keep ((hkeep b _ g3.1 (Ne.symm g12) (fun m fn z => by cases z)).trans g3.1.symm) (hR2 eb (fun z => ?_) (fun z => hne0 (g13 z.symm)))
    rw [z, g2.1] at hb1; cases hb1
  · rw [ho _ (by omega) (by omega)]; exact g5 i hi
  · rw [e0] at hk
    obtain ⟨m1, m2, m3, m4⟩ := hm k hk
    rw [erase_at, m1, m2, m3, m4]
    by_cases h1 : k < i
    · rw [if_pos h1, if_pos h1, if_pos h1, if_pos h1, if_pos h1]
      have hk2 := g8 k (by omega)
      exact hkeep _ _ hk2 (fun z => by rw [z, g2.1] at hk2; cases hk2) (fun m fn z => by cases z)
    · rw [if_neg h1, if_neg h1, if_neg h1, if_neg h1, if_neg h1]
      have hk2 := g8 (k + 1) (by omega)
      exact hkeep _ _ hk2 (fun z => by rw [z, g2.1] at hk2; cases hk2) (fun m fn z => by cases z)
  · rw [e1] at hk
    rw [ho _ (by omega) (by omega), ho _ (by omega) (by omega)]
    have hk2 := g9 k hk
    exact hkeep _ _ hk2 (fun z => by rw [z, g2.1] at hk2; cases hk2) (fun m fn z => by cases z)
  · rw [e0] at hk
    rw [erase_at]
    split
    · exact g14.2.2.2.2.2.2.1 k (by omega)
    · exact g14.2.2.2.2.2.2.1 (k + 1) (by omega)
  · rw [e1] at hk; exact g14.2.2.2.2.2.2.2 k hk
theorem FA.strikes (hF : FA g hb h f s a ea ma ca b eb mb cb d ls lh) {i : Nat} (hi : i < nH s) (hR : REM g h b eb mb cb lh i h') {fn : Nat → Option Nat} (kc : h (gs g 0) = some (eQ (g.2.1 4) 0 fn)) (hn : nH s ≤ 6) (hns : nS s ≤ 18) (h00 : s' 1 = nI (nH s - 1)) (hm : ∀ k, k < nH s - 1 → s' (81 + k) = (if k < i then s (81 + k) else s (81 + k + 1)) ∧ s' (87 + k) = (if k < i then s (87 + k) else s (87 + k + 1))) (ho : ∀ q, q ≠ 1 → q < 81 → s' q = s q) :
    FA g hb h' f s' a ea ma ca b eb (mb + 1) cb d ls (lh.eraseIdx i) := by
  obtain ⟨g0, g1, g2, g3, ⟨fd, g4, g5⟩, g6, g7, g8, g9, g10, g11, g12, g13, g14⟩ := hF
  obtain ⟨hR1, hR2⟩ := hR
  have e1 : nH s' = nH s - 1 := by unfold nH at *; rw [h00]; exact nI_clamp (by omega)
  have e0 := nS_of (ho 0 (by omega) (by omega))
  have hne0 := g3.ne0 (by omega) kc
  obtain ⟨f1, ha1⟩ := g2.arr
  obtain ⟨f2, hb1⟩ := g3.arr
  have hkeep : ∀ q e, h q = some e → q ≠ b → (∀ m fn, e ≠ eQ (g.2.1 4) m fn) → h' q = some e := fun q e hq hqa he => (hR2 q hqa (fun z => absurd (Option.some.inj ((z ▸ hq).symm.trans hb1)) (he _ _))).trans hq
  have hab : hb eb = none := g14.2.2.2.2.2.1.resolve_left hne0
  have hs : sub hb h' := fun q e hq => (hR2 q (fun z => by rw [z, g14.2.2.1] at hq; cases hq) (fun z => by rw [z, hab] at hq; cases hq)).trans (g0 q e hq)
  refine ⟨hs, ?_, ?_, hR1, ⟨fd, hkeep d _ g4 (fun z => by rw [z, g3.1] at g4; cases g4) (fun m fn z => by injection z with z; injection z with z1 z2; injection z2 with z3 z4; cases z4), fun i hi => ?_⟩, by rw [e0]; exact g6, by rw [erase_len (by omega), e1, g7], fun k hk => ?_, fun k hk => ?_, g10, nodup_erase g11, g12, g13, g14.1, g14.2.1, g14.2.2.1, g14.2.2.2.1, g14.2.2.2.2.1, g14.2.2.2.2.2.1, fun k hk => ?_, fun k hk => ?_⟩
  · rw [ho 2 (by omega) (by omega), ho 3 (by omega) (by omega), ho 4 (by omega) (by omega), ho 5 (by omega) (by omega)]
    exact hkeep f _ g1 (fun z => by rw [z, g3.1] at g1; cases g1) (fun m fn z => by cases z)
  · refine g2.keep ((hkeep a _ g2.1 g12 (fun m fn z => by cases z)).trans g2.1.symm) (hR2 ea (fun z => ?_) (fun z => hne0 (z.symm.trans (g13 z))))
    rw [z, g3.1] at ha1; cases ha1
  · rw [ho _ (by omega) (by omega)]; exact g5 i hi
  · rw [e0] at hk
    rw [ho _ (by omega) (by omega), ho _ (by omega) (by omega), ho _ (by omega) (by omega), ho _ (by omega) (by omega)]
    have hk2 := g8 k hk
    exact hkeep _ _ hk2 (fun z => by rw [z, g3.1] at hk2; cases hk2) (fun m fn z => by cases z)
  · rw [e1] at hk
    obtain ⟨m1, m2⟩ := hm k hk
    rw [erase_at, m1, m2]
    by_cases h1 : k < i
    · rw [if_pos h1, if_pos h1, if_pos h1]
      have hk2 := g9 k (by omega)
      exact hkeep _ _ hk2 (fun z => by rw [z, g3.1] at hk2; cases hk2) (fun m fn z => by cases z)
    · rw [if_neg h1, if_neg h1, if_neg h1]
      have hk2 := g9 (k + 1) (by omega)
      exact hkeep _ _ hk2 (fun z => by rw [z, g3.1] at hk2; cases hk2) (fun m fn z => by cases z)
  · rw [e0] at hk; exact g14.2.2.2.2.2.2.1 k hk
  · rw [e1] at hk
    rw [erase_at]
    split
    · exact g14.2.2.2.2.2.2.2 k (by omega)
    · exact g14.2.2.2.2.2.2.2 (k + 1) (by omega)
end FAS2
