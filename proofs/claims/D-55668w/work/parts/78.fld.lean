/-! THE FIELD: what stands for a row s -/
set_option maxRecDepth 100000
/-- all that is known in h is known in h' -/
def sub (h h' : AH) : Prop := ∀ a e, h a = some e → h' a = some e
theorem sub.rf {h : AH} : sub h h := fun _ _ q => q
theorem sub.tr {h h1 h2 : AH} (s : sub h h1) (t : sub h1 h2) : sub h h2 := fun a e q => t a e (s a e q)
theorem sub.set {h0 h : AH} {q : Nat} {e : va_E} (s : sub h0 h) (n : h0 q = none) : sub h0 (hset h q e) := fun a e9 q9 => by
  by_cases z : a = q
  · rw [z, n] at q9; cases q9
  · rw [hset_n z]; exact s a e9 q9
theorem sub.new {h : AH} {q : Nat} {e : va_E} (n : h q = none) : sub h (hset h q e) := sub.rf.set n
theorem sub.none {h0 h : AH} {q : Nat} (s : sub h0 h) (n : h q = none) : h0 q = none := by
  cases z : h0 q with
  | none => rfl
  | some e => rw [s q e z] at n; cases n
/-- the Field f, with its lists a (in ea), b (in eb), its dogs d, its sheep ls, its huts lh, stands for s; none of it is known in hb -/
def FA (g : GP) (hb h : AH) (f : Nat) (s : SF) (a ea : Nat) (ma : Int32) (ca b eb : Nat) (mb : Int32) (cb d : Nat) (ls lh : List Nat) : Prop :=
  sub hb h ∧ h f = some (eO 1 [.ref a, .ref b, .ref d, .int (s 2), .int (s 3), .int (s 4), .int (s 5)]) ∧ AL g h a ea ma ca ls ∧ AL g h b eb mb cb lh ∧
  (∃ fd, h d = some (eI (g.2.1 0) 3 fd) ∧ ∀ i, i < 3 → fd i = s (6 + i)) ∧ ls.length = nS s ∧ lh.length = nH s ∧
  (∀ k, k < nS s → h (ls.getD k 0) = some (shE (s (9 + k)) (s (27 + k)) (s (45 + k)) (s (63 + k)))) ∧
  (∀ j, j < nH s → h (lh.getD j 0) = some (huE (s (81 + j)) (s (87 + j)))) ∧
  ls.Nodup ∧ lh.Nodup ∧ a ≠ b ∧ (ea = eb → ea = gs g 0) ∧
  (hb f = none ∧ hb a = none ∧ hb b = none ∧ hb d = none ∧ (ea = gs g 0 ∨ hb ea = none) ∧ (eb = gs g 0 ∨ hb eb = none) ∧ (∀ k, k < nS s → hb (ls.getD k 0) = none) ∧ ∀ j, j < nH s → hb (lh.getD j 0) = none)
def FW (g : GP) (hb : AH) (f : Nat) (s : SF) (h : AH) : Prop := ∃ a ea ma ca b eb mb cb d ls lh, FA g hb h f s a ea ma ca b eb mb cb d ls lh
def FieldAt (g : GP) (h : AH) (f : Nat) (s : SF) : Prop := FW g (fun _ => none) f s h
theorem nodup_at {l : List Nat} (h : l.Nodup) {i j : Nat} (hi : i < l.length) (hj : j < l.length) (e : l.getD i 0 = l.getD j 0) : i = j := by
  rw [List.getD_eq_getElem?_getD, List.getD_eq_getElem?_getD, List.getElem?_eq_getElem hi, List.getElem?_eq_getElem hj] at e
  have e : l[i] = l[j] := e
  have hp := List.pairwise_iff_getElem.mp h
  by_cases h1 : i < j
  · exact absurd e (hp i j hi hj h1)
  · by_cases h2 : j < i
    · exact absurd e.symm (hp j i hj hi h2)
    · omega
section FAS
variable {g : GP} {hb h h' : AH} {f : Nat} {s s' : SF} {a ea : Nat} {ma : Int32} {ca b eb : Nat} {mb : Int32} {cb d : Nat} {ls lh : List Nat}
theorem FA.ss (hF : FA g hb h f s a ea ma ca b eb mb cb d ls lh) : sub hb h := hF.1
theorem FA.o (hF : FA g hb h f s a ea ma ca b eb mb cb d ls lh) : h f = some (eO 1 [.ref a, .ref b, .ref d, .int (s 2), .int (s 3), .int (s 4), .int (s 5)]) := hF.2.1
theorem FA.la (hF : FA g hb h f s a ea ma ca b eb mb cb d ls lh) : AL g h a ea ma ca ls := hF.2.2.1
theorem FA.lb (hF : FA g hb h f s a ea ma ca b eb mb cb d ls lh) : AL g h b eb mb cb lh := hF.2.2.2.1
theorem FA.dg (hF : FA g hb h f s a ea ma ca b eb mb cb d ls lh) : ∃ fd, h d = some (eI (g.2.1 0) 3 fd) ∧ ∀ i, i < 3 → fd i = s (6 + i) := hF.2.2.2.2.1
theorem FA.nl (hF : FA g hb h f s a ea ma ca b eb mb cb d ls lh) : ls.length = nS s := hF.2.2.2.2.2.1
theorem FA.nh (hF : FA g hb h f s a ea ma ca b eb mb cb d ls lh) : lh.length = nH s := hF.2.2.2.2.2.2.1
theorem FA.sh (hF : FA g hb h f s a ea ma ca b eb mb cb d ls lh) {k : Nat} (hk : k < nS s) : h (ls.getD k 0) = some (shE (s (9 + k)) (s (27 + k)) (s (45 + k)) (s (63 + k))) := hF.2.2.2.2.2.2.2.1 k hk
theorem FA.hu (hF : FA g hb h f s a ea ma ca b eb mb cb d ls lh) {j : Nat} (hj : j < nH s) : h (lh.getD j 0) = some (huE (s (81 + j)) (s (87 + j))) := hF.2.2.2.2.2.2.2.2.1 j hj
theorem FA.ds (hF : FA g hb h f s a ea ma ca b eb mb cb d ls lh) : ls.Nodup := hF.2.2.2.2.2.2.2.2.2.1
theorem FA.up (hF : FA g hb h f s a ea ma ca b eb mb cb d ls lh) (hs : sub h h') : FA g hb h' f s a ea ma ca b eb mb cb d ls lh := by
  obtain ⟨h0, h1, h2, h3, ⟨fd, h4, h5⟩, h6, h7, h8, h9, h10⟩ := hF
  exact ⟨h0.tr hs, hs _ _ h1, h2.sub hs, h3.sub hs, ⟨fd, hs _ _ h4, h5⟩, h6, h7, fun k hk => hs _ _ (h8 k hk), fun j hj => hs _ _ (h9 j hj), h10⟩
/-- only the places in use count -/
theorem FA.to (hF : FA g hb h f s a ea ma ca b eb mb cb d ls lh) (h0 : s' 0 = s 0) (h1 : s' 1 = s 1) (hq : ∀ q, 2 ≤ q → (q < 9 ∨ (∃ k, k < nS s ∧ (q = 9 + k ∨ q = 27 + k ∨ q = 45 + k ∨ q = 63 + k)) ∨ ∃ j, j < nH s ∧ (q = 81 + j ∨ q = 87 + j)) → s' q = s q) : FA g hb h f s' a ea ma ca b eb mb cb d ls lh := by
  obtain ⟨g0, g1, g2, g3, ⟨fd, g4, g5⟩, g6, g7, g8, g9, g10, g11, g12, g13, g14⟩ := hF
  have e0 := nS_of h0
  have e1 := nH_of h1
  refine ⟨g0, ?_, g2, g3, ⟨fd, g4, fun i hi => ?_⟩, by rw [e0]; exact g6, by rw [e1]; exact g7, fun k hk => ?_, fun j hj => ?_, g10, g11, g12, g13, ?_⟩
  · rw [hq 2 (by omega) (Or.inl (by omega)), hq 3 (by omega) (Or.inl (by omega)), hq 4 (by omega) (Or.inl (by omega)), hq 5 (by omega) (Or.inl (by omega))]; exact g1
  · rw [hq _ (by omega) (Or.inl (by omega))]; exact g5 i hi
  · rw [e0] at hk
    rw [hq _ (by omega) (Or.inr (Or.inl ⟨k, hk, Or.inl rfl⟩)), hq _ (by omega) (Or.inr (Or.inl ⟨k, hk, Or.inr (Or.inl rfl)⟩)), hq _ (by omega) (Or.inr (Or.inl ⟨k, hk, Or.inr (Or.inr (Or.inl rfl))⟩)), hq _ (by omega) (Or.inr (Or.inl ⟨k, hk, Or.inr (Or.inr (Or.inr rfl))⟩))]
    exact g8 k hk
  · rw [e1] at hj
    rw [hq _ (by omega) (Or.inr (Or.inr ⟨j, hj, Or.inl rfl⟩)), hq _ (by omega) (Or.inr (Or.inr ⟨j, hj, Or.inr rfl⟩))]
    exact g9 j hj
  · rw [e0, e1]; exact g14
theorem AL.off (hl : AL g h a ea ma ca ls) {q : Nat} {e0 e : va_E} (hq : h q = some e0) (h1 : e0 ≠ eO 12 [.int ma, .ref ea, .int (nI ls.length)]) (h2 : ∀ fn, e0 ≠ eQ (g.2.1 4) ca fn) : AL g (hset h q e) a ea ma ca ls := by
  refine hl.keep (hset_n fun z => ?_) (hset_n fun z => ?_)
  · rw [← z, hl.1] at hq; exact h1 (Option.some.inj hq).symm
  · obtain ⟨fn, g1, -⟩ := hl.2.1
    rw [← z, g1] at hq
    exact h2 fn (Option.some.inj hq).symm
/-- sheep k is written -/
theorem FA.sheep (hF : FA g hb h f s a ea ma ca b eb mb cb d ls lh) {k : Nat} (hk : k < nS s) (hn : nS s ≤ 18) (ho : ∀ q, q ≠ 9 + k → q ≠ 27 + k → q ≠ 45 + k → q ≠ 63 + k → s' q = s q) : FA g hb (hset h (ls.getD k 0) (shE (s' (9 + k)) (s' (27 + k)) (s' (45 + k)) (s' (63 + k)))) f s' a ea ma ca b eb mb cb d ls lh := by
  obtain ⟨g0, g1, g2, g3, ⟨fd, g4, g5⟩, g6, g7, g8, g9, g10, g11, g12, g13, g14⟩ := hF
  have e0 := nS_of (ho 0 (by omega) (by omega) (by omega) (by omega))
  have e1 := nH_of (ho 1 (by omega) (by omega) (by omega) (by omega))
  have hx := g8 k hk
  have hfr := g14.2.2.2.2.2.2.1 k hk
  refine ⟨g0.set hfr, ?_, g2.off hx nofun nofun, g3.off hx nofun nofun, ⟨fd, (hset_n fun z => ?_).trans g4, fun i hi => ?_⟩, by rw [e0]; exact g6, by rw [e1]; exact g7, fun i hi => ?_, fun j hj => ?_, g10, g11, g12, g13, by rw [e0, e1]; exact g14⟩
  · rw [hset_n (fun z => by rw [← z, g1] at hx; cases hx), ho 2 (by omega) (by omega) (by omega) (by omega), ho 3 (by omega) (by omega) (by omega) (by omega), ho 4 (by omega) (by omega) (by omega) (by omega), ho 5 (by omega) (by omega) (by omega) (by omega)]; exact g1
  · rw [← z, g4] at hx; cases hx
  · rw [ho _ (by omega) (by omega) (by omega) (by omega)]; exact g5 i hi
  · rw [e0] at hi
    by_cases e : i = k
    · subst e; exact hset_s _ _ _
    · rw [hset_n (fun z => e (nodup_at g10 (by omega) (by omega) z)), ho _ (by omega) (by omega) (by omega) (by omega), ho _ (by omega) (by omega) (by omega) (by omega), ho _ (by omega) (by omega) (by omega) (by omega), ho _ (by omega) (by omega) (by omega) (by omega)]
      exact g8 i hi
  · rw [e1] at hj
    rw [hset_n (fun z => by rw [← z, g9 j hj] at hx; cases hx), ho _ (by omega) (by omega) (by omega) (by omega), ho _ (by omega) (by omega) (by omega) (by omega)]
    exact g9 j hj
/-- hut j is written -/
theorem FA.hut (hF : FA g hb h f s a ea ma ca b eb mb cb d ls lh) {j : Nat} (hj : j < nH s) (hn : nH s ≤ 6) (hm : nS s ≤ 18) (ho : ∀ q, q ≠ 81 + j → q ≠ 87 + j → s' q = s q) : FA g hb (hset h (lh.getD j 0) (huE (s' (81 + j)) (s' (87 + j)))) f s' a ea ma ca b eb mb cb d ls lh := by
  obtain ⟨g0, g1, g2, g3, ⟨fd, g4, g5⟩, g6, g7, g8, g9, g10, g11, g12, g13, g14⟩ := hF
  have e0 := nS_of (ho 0 (by omega) (by omega))
  have e1 := nH_of (ho 1 (by omega) (by omega))
  have hx := g9 j hj
  have hfr := g14.2.2.2.2.2.2.2 j hj
  refine ⟨g0.set hfr, ?_, g2.off hx nofun nofun, g3.off hx nofun nofun, ⟨fd, (hset_n fun z => ?_).trans g4, fun i hi => ?_⟩, by rw [e0]; exact g6, by rw [e1]; exact g7, fun i hi => ?_, fun i hi => ?_, g10, g11, g12, g13, by rw [e0, e1]; exact g14⟩
  · rw [hset_n (fun z => by rw [← z, g1] at hx; cases hx), ho 2 (by omega) (by omega), ho 3 (by omega) (by omega), ho 4 (by omega) (by omega), ho 5 (by omega) (by omega)]; exact g1
  · rw [← z, g4] at hx; cases hx
  · rw [ho _ (by omega) (by omega)]; exact g5 i hi
  · rw [e0] at hi
    rw [hset_n (fun z => by rw [← z, g8 i hi] at hx; cases hx), ho _ (by omega) (by omega), ho _ (by omega) (by omega), ho _ (by omega) (by omega), ho _ (by omega) (by omega)]
    exact g8 i hi
  · rw [e1] at hi
    by_cases e : i = j
    · subst e; exact hset_s _ _ _
    · rw [hset_n (fun z => e (nodup_at g11 (by omega) (by omega) z)), ho _ (by omega) (by omega), ho _ (by omega) (by omega)]
      exact g9 i hi
/-- the Field's own numbers are written -/
theorem FA.ctr (hF : FA g hb h f s a ea ma ca b eb mb cb d ls lh) (ho : ∀ q, q ≠ 2 → q ≠ 3 → q ≠ 4 → q ≠ 5 → s' q = s q) : FA g hb (hset h f (eO 1 [.ref a, .ref b, .ref d, .int (s' 2), .int (s' 3), .int (s' 4), .int (s' 5)])) f s' a ea ma ca b eb mb cb d ls lh := by
  obtain ⟨g0, g1, g2, g3, ⟨fd, g4, g5⟩, g6, g7, g8, g9, g10, g11, g12, g13, g14⟩ := hF
  have e0 := nS_of (ho 0 (by omega) (by omega) (by omega) (by omega))
  have e1 := nH_of (ho 1 (by omega) (by omega) (by omega) (by omega))
  refine ⟨g0.set g14.1, hset_s _ _ _, g2.off g1 nofun nofun, g3.off g1 nofun nofun, ⟨fd, (hset_n fun z => ?_).trans g4, fun i hi => ?_⟩, by rw [e0]; exact g6, by rw [e1]; exact g7, fun i hi => ?_, fun i hi => ?_, g10, g11, g12, g13, by rw [e0, e1]; exact g14⟩
  · rw [z, g1] at g4; cases g4
  · rw [ho _ (by omega) (by omega) (by omega) (by omega)]; exact g5 i hi
  · rw [e0] at hi
    rw [hset_n (fun z => by have := g8 i hi; rw [z, g1] at this; cases this), ho _ (by omega) (by omega) (by omega) (by omega), ho _ (by omega) (by omega) (by omega) (by omega), ho _ (by omega) (by omega) (by omega) (by omega), ho _ (by omega) (by omega) (by omega) (by omega)]
    exact g8 i hi
  · rw [e1] at hi
    rw [hset_n (fun z => by have := g9 i hi; rw [z, g1] at this; cases this), ho _ (by omega) (by omega) (by omega) (by omega), ho _ (by omega) (by omega) (by omega) (by omega)]
    exact g9 i hi
/-- a dog is written -/
theorem FA.dog (hF : FA g hb h f s a ea ma ca b eb mb cb d ls lh) {i : Nat} (hi : i < 3) {fd : Nat → Int32} (hd : h d = some (eI (g.2.1 0) 3 fd)) (hfd : ∀ i, i < 3 → fd i = s (6 + i)) {v : Int32} : FA g hb (hset h d (eI (g.2.1 0) 3 (upd fd i v))) f (upd s (6 + i) v) a ea ma ca b eb mb cb d ls lh := by
  obtain ⟨g0, g1, g2, g3, ⟨fd', g4, g5⟩, g6, g7, g8, g9, g10, g11, g12, g13, g14⟩ := hF
  have ho : ∀ q, q ≠ 6 + i → upd s (6 + i) v q = s q := fun q hq => upd_n hq
  have e0 := nS_of (ho 0 (by omega))
  have e1 := nH_of (ho 1 (by omega))
  refine ⟨g0.set g14.2.2.2.1, ?_, ?_, ?_, ⟨_, hset_s _ _ _, fun j hj => ?_⟩, by rw [e0]; exact g6, by rw [e1]; exact g7, fun k hk => ?_, fun k hk => ?_, g10, g11, g12, g13, by rw [e0, e1]; exact g14⟩
  · rw [hset_n (fun z => by rw [z, g4] at g1; cases g1), ho 2 (by omega), ho 3 (by omega), ho 4 (by omega), ho 5 (by omega)]; exact g1
  · exact g2.off g4 nofun (fun fn z => by injection z with z; injection z with z1 z2; injection z2 with z3 z4; cases z4)
  · exact g3.off g4 nofun (fun fn z => by injection z with z; injection z with z1 z2; injection z2 with z3 z4; cases z4)
  · by_cases e : j = i
    · subst e; rw [upd_s, upd_s]
    · rw [upd_n e, ho _ (by omega)]; exact hfd j hj
  · rw [e0] at hk
    rw [hset_n (fun z => by have := g8 k hk; rw [z, g4] at this; cases this), ho _ (by omega), ho _ (by omega), ho _ (by omega), ho _ (by omega)]
    exact g8 k hk
  · rw [e1] at hk
    rw [hset_n (fun z => by have := g9 k hk; rw [z, g4] at this; cases this), ho _ (by omega), ho _ (by omega)]
    exact g9 k hk
end FAS
