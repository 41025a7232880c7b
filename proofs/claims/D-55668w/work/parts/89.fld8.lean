/-! THE FIELD, 4: made anew; lists beside it -/
set_option maxRecDepth 100000
/-- the first k sheep and j huts of s, nothing else yet -/
def part (s : SF) (k j : Nat) : SF := fun q => if q = 0 then nI k else if q = 1 then nI j else if q < 6 then 0 else if q < 9 then -1 else s q
section FAS4
variable {g : GP} {hb h h' : AH} {f : Nat} {s s' : SF} {a ea : Nat} {ma ma' : Int32} {ca b eb : Nat} {mb mb' : Int32} {cb d : Nat} {ls lh : List Nat}
theorem FA.new (hs : sub hb h') (h1 : h' f = some (eO 1 [.ref a, .ref b, .ref d, .int 0, .int 0, .int 0, .int 0])) (h2 : h' a = some (eO 12 [.int 0, .ref (gs g 0), .int 0])) (h3 : h' b = some (eO 12 [.int 0, .ref (gs g 0), .int 0])) {fd : Nat → Int32} (h4 : h' d = some (eI (g.2.1 0) 3 fd)) (h5 : ∀ i, i < 3 → fd i = -1) (hab : a ≠ b) {fn : Nat → Option Nat} (kc : h' (gs g 0) = some (eQ (g.2.1 4) 0 fn)) (n1 : hb f = none) (n2 : hb a = none) (n3 : hb b = none) (n4 : hb d = none) : FA g hb h' f sNew a (gs g 0) 0 0 b (gs g 0) 0 0 d [] [] := by
  have e0 : nS sNew = 0 := by unfold nS sNew; decide
  have e1 : nH sNew = 0 := by unfold nH sNew; decide
  have hal : ∀ x, h' x = some (eO 12 [.int 0, .ref (gs g 0), .int 0]) → AL g h' x (gs g 0) 0 0 [] := fun x hx => ⟨hx, ⟨fn, kc, fun i hi => absurd hi (Nat.not_lt_zero _)⟩, Nat.le_refl _, by decide, fun _ => rfl⟩
  refine ⟨hs, h1, hal a h2, hal b h3, ⟨fd, h4, fun i hi => ?_⟩, e0.symm, e1.symm, fun k hk => ?_, fun k hk => ?_, List.nodup_nil, List.nodup_nil, hab, fun _ => rfl, n1, n2, n3, n4, Or.inl rfl, Or.inl rfl, fun k hk => ?_, fun k hk => ?_⟩
  · rw [h5 i hi, sNew, if_pos (by omega)]
  all_goals first | (rw [e0] at hk; exact absurd hk (Nat.not_lt_zero _)) | (rw [e1] at hk; exact absurd hk (Nat.not_lt_zero _))
/-- all dogs are written -/
theorem FA.dogs (hF : FA g hb h f s a ea ma ca b eb mb cb d ls lh) {fd : Nat → Int32} (hfd : ∀ i, i < 3 → fd i = s' (6 + i)) (ho : ∀ q, q < 6 ∨ 9 ≤ q → s' q = s q) : FA g hb (hset h d (eI (g.2.1 0) 3 fd)) f s' a ea ma ca b eb mb cb d ls lh := by
  obtain ⟨g0, g1, g2, g3, ⟨fd', g4, g5⟩, g6, g7, g8, g9, g10, g11, g12, g13, g14⟩ := hF
  have e0 := nS_of (ho 0 (by omega))
  have e1 := nH_of (ho 1 (by omega))
  refine ⟨g0.set g14.2.2.2.1, ?_, ?_, ?_, ⟨_, hset_s _ _ _, hfd⟩, by rw [e0]; exact g6, by rw [e1]; exact g7, fun k hk => ?_, fun k hk => ?_, g10, g11, g12, g13, by rw [e0, e1]; exact g14⟩
  · rw [hset_n (fun z => by rw [z, g4] at g1; cases g1), ho 2 (by omega), ho 3 (by omega), ho 4 (by omega), ho 5 (by omega)]; exact g1
  · exact g2.off g4 nofun (fun fn z => by injection z with z; injection z with z1 z2; injection z2 with z3 z4; cases z4)
  · exact g3.off g4 nofun (fun fn z => by injection z with z; injection z with z1 z2; injection z2 with z3 z4; cases z4)
  · rw [e0] at hk
    rw [hset_n (fun z => by have := g8 k hk; rw [z, g4] at this; cases this), ho _ (by omega), ho _ (by omega), ho _ (by omega), ho _ (by omega)]
    exact g8 k hk
  · rw [e1] at hk
    rw [hset_n (fun z => by have := g9 k hk; rw [z, g4] at this; cases this), ho _ (by omega), ho _ (by omega)]
    exact g9 k hk
/-- a list beside it grows -/
theorem FA.outer (hF : FA g hb h f s a ea ma ca b eb mb cb d ls lh) {q ed x cap : Nat} {mc mc' : Int32} {l : List Nat} (hl : AL g hb q ed mc cap l) (hA : ADD g h q ed mc' l x h') {fn : Nat → Option Nat} (kc : h' (gs g 0) = some (eQ (g.2.1 4) 0 fn)) :
    ∃ hb' ed' cap', FA g hb' h' f s a ea ma ca b eb mb cb d ls lh ∧ AL g hb' q ed' mc' cap' (l ++ [x]) ∧ (ed' = ed ∨ h ed' = none) ∧ ∀ y e, hb y = some e → y ≠ q → (y = ed → y = gs g 0) → hb' y = some e := by
  obtain ⟨g0, g1, g2, g3, ⟨fd, g4, g5⟩, g6, g7, g8, g9, g10, g11, g12, g13, g14⟩ := hF
  obtain ⟨ed', cap', hA1, hA2, hA3⟩ := hA
  have hne0 := hA1.ne0 (by rw [List.length_append]; exact Nat.succ_pos _) kc
  obtain ⟨f0, hed⟩ := hl.arr
  have hq := hl.1
  obtain ⟨f1, ha1⟩ := g2.arr
  obtain ⟨f2, hb1⟩ := g3.arr
  have key : ∀ y e, h y = some e → hb y = none → y ≠ q ∧ y ≠ ed ∧ y ≠ ed' ∧ h' y = some e := fun y e hy hn => by
    have k1 : y ≠ q := fun z => by rw [z, hq] at hn; cases hn
    have k2 : y ≠ ed := fun z => by rw [z, hed] at hn; cases hn
    refine ⟨k1, k2, fun z => ?_, hA3 y e hy k1 (fun z => absurd z k2)⟩
    rcases hA2 with z2 | z2
    · exact k2 (z.trans z2)
    · rw [← z, hy] at z2; cases z2
  have key2 : ∀ y, hb y = none → y ≠ q → y ≠ ed' → (fun y => if y = q ∨ y = ed' then h' y else hb y) y = none := fun y hn h1 h2 => by
    show (if y = q ∨ y = ed' then h' y else hb y) = none
    rw [if_neg (fun z => z.elim h1 h2)]; exact hn
  have ar : ∀ y m fn, h y = some (eQ (g.2.1 4) m fn) → (y = gs g 0 ∨ hb y = none) → h' y = some (eQ (g.2.1 4) m fn) ∧ (y = gs g 0 ∨ (fun y => if y = q ∨ y = ed' then h' y else hb y) y = none) := fun y m fn hy ho => by
    rcases ho with ho | ho
    · subst ho
      refine ⟨hA3 _ _ hy (fun z => ?_) (fun z z3 => hne0 (z3.trans z.symm)), Or.inl rfl⟩
      have := g0 _ _ hq; rw [← z, hy] at this; cases this
    · obtain ⟨k1, k2, k3, k4⟩ := key y _ hy ho
      exact ⟨k4, Or.inr (key2 y ho k1 k3)⟩
  have kf := key f _ g1 g14.1
  have ka := key a _ g2.1 g14.2.1
  have kb := key b _ g3.1 g14.2.2.1
  have kd := key d _ g4 g14.2.2.2.1
  have kea := ar ea _ _ ha1 g14.2.2.2.2.1
  have keb := ar eb _ _ hb1 g14.2.2.2.2.2.1
  refine ⟨fun y => if y = q ∨ y = ed' then h' y else hb y, ed', cap', ⟨fun y e hy => ?_, kf.2.2.2, g2.keep (ka.2.2.2.trans g2.1.symm) (kea.1.trans ha1.symm), g3.keep (kb.2.2.2.trans g3.1.symm) (keb.1.trans hb1.symm), ⟨fd, kd.2.2.2, g5⟩, g6, g7, fun k hk => (key _ _ (g8 k hk) (g14.2.2.2.2.2.2.1 k hk)).2.2.2, fun k hk => (key _ _ (g9 k hk) (g14.2.2.2.2.2.2.2 k hk)).2.2.2, g10, g11, g12, g13, key2 _ g14.1 kf.1 kf.2.2.1, key2 _ g14.2.1 ka.1 ka.2.2.1, key2 _ g14.2.2.1 kb.1 kb.2.2.1, key2 _ g14.2.2.2.1 kd.1 kd.2.2.1, kea.2, keb.2, fun k hk => ?_, fun k hk => ?_⟩, hA1.keep (by show (if q = q ∨ q = ed' then h' q else hb q) = _; rw [if_pos (Or.inl rfl)]) (by show (if ed' = q ∨ ed' = ed' then h' ed' else hb ed') = _; rw [if_pos (Or.inr rfl)]), hA2, fun y e hy h1 h2 => ?_⟩
  · have hy : (if y = q ∨ y = ed' then h' y else hb y) = some e := hy
    by_cases z : y = q ∨ y = ed'
    · rw [if_pos z] at hy; exact hy
    · rw [if_neg z] at hy
      exact hA3 y e (g0 y e hy) (fun z2 => z (Or.inl z2)) (fun z2 z3 => z (Or.inr (z2.trans z3.symm)))
  · have := key _ _ (g8 k hk) (g14.2.2.2.2.2.2.1 k hk); exact key2 _ (g14.2.2.2.2.2.2.1 k hk) this.1 this.2.2.1
  · have := key _ _ (g9 k hk) (g14.2.2.2.2.2.2.2 k hk); exact key2 _ (g14.2.2.2.2.2.2.2 k hk) this.1 this.2.2.1
  · show (if y = q ∨ y = ed' then h' y else hb y) = some e
    have hn : ¬ (y = q ∨ y = ed') := fun z => z.elim h1 (fun z2 => by
      rcases hA2 with z3 | z3
      · exact hne0 (z2.symm.trans (h2 (z2.trans z3)))
      · rw [← z2, g0 y e hy] at z3; cases z3)
    rw [if_neg hn]
    exact hy
/-- the empty array is known beside it -/
theorem FA.base0 (hF : FA g hb h f s a ea ma ca b eb mb cb d ls lh) {fn : Nat → Option Nat} (kc : h (gs g 0) = some (eQ (g.2.1 4) 0 fn)) : FA g (hset hb (gs g 0) (eQ (g.2.1 4) 0 fn)) h f s a ea ma ca b eb mb cb d ls lh := by
  obtain ⟨g0, g1, g2, g3, ⟨fd, g4, g5⟩, g6, g7, g8, g9, g10, g11, g12, g13, g14⟩ := hF
  have key : ∀ x e, h x = some e → (∀ m fn, e ≠ eQ (g.2.1 4) m fn) → hb x = none → hset hb (gs g 0) (eQ (g.2.1 4) 0 fn) x = none := fun x e hx he hn => (hset_n (fun z => by rw [z, kc] at hx; exact he _ _ (Option.some.inj hx).symm)).trans hn
  have ar : ∀ y, (y = gs g 0 ∨ hb y = none) → (y = gs g 0 ∨ hset hb (gs g 0) (eQ (g.2.1 4) 0 fn) y = none) := fun y ho => by
    by_cases z : y = gs g 0
    · exact Or.inl z
    · exact Or.inr ((hset_n z).trans (ho.resolve_left z))
  refine ⟨fun x e hx => ?_, g1, g2, g3, ⟨fd, g4, g5⟩, g6, g7, g8, g9, g10, g11, g12, g13, key f _ g1 nofun g14.1, key a _ g2.1 nofun g14.2.1, key b _ g3.1 nofun g14.2.2.1, key d _ g4 (fun m fn z => by injection z with z; injection z with z1 z2; injection z2 with z3 z4; cases z4) g14.2.2.2.1, ar _ g14.2.2.2.2.1, ar _ g14.2.2.2.2.2.1, fun k hk => key _ _ (g8 k hk) nofun (g14.2.2.2.2.2.2.1 k hk), fun k hk => key _ _ (g9 k hk) nofun (g14.2.2.2.2.2.2.2 k hk)⟩
  by_cases z : x = gs g 0
  · rw [z, hset_s] at hx; rw [z, kc]; exact hx
  · rw [hset_n z] at hx; exact g0 x e hx
end FAS4
