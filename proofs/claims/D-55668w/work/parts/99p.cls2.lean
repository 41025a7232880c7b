/-! THE CLASS's STATE -/
set_option maxRecDepth 100000
/-- the class's object x, its deque, its builder in h; what never changes of it is in B; hb lies beside it -/
def CH (g : GP) (hb h : AH) (x : Nat) (B : AH) (f dq el hd : Nat) (lq : List Nat) (sv : Option Nat) (sb bb cap : Nat) (tx : List Nat) (ln : Nat) (er re : Option Nat) (it : Int32) : Prop :=
  sub hb h ∧ sub B h ∧ (∀ q e, hb q = some e → B q = none) ∧ (hb x = none ∧ hb dq = none ∧ hb el = none ∧ hb sb = none ∧ hb bb = none) ∧ (B x = none ∧ B dq = none ∧ B el = none ∧ B sb = none ∧ B bb = none) ∧
  h x = some (clE f dq sv sb ln er it re) ∧ DQ g h dq el hd lq ∧ SB g h sb bb cap tx ∧ B (gs g 0) = some (eQ (g.2.1 4) 0 (fun _ => none))
def HQ (g : GP) (B : AH) (lq : List Nat) (hs : List SF) : Prop := lq.length = hs.length ∧ ∀ i r, hs[i]? = some r → FieldAt g B (lq.getD i 0) r
def CS (g : GP) (B : AH) (S : ST) (f : Nat) (lq : List Nat) (sv : Option Nat) (tx : List Nat) (ln : Nat) (er re : Option Nat) (it : Int32) : Prop :=
  FieldAt g B f S.row ∧ HQ g B lq S.hist ∧ ((S.saved = none ∧ sv = none) ∨ ∃ r a, S.saved = some r ∧ sv = some a ∧ FieldAt g B a r) ∧ (S.text = tx.map nI ∧ asc tx ∧ tx.length ≤ 60) ∧ (∃ ol, StrAt g B ln ol ∧ S.out = ol.map nI ∧ asc ol ∧ ol.length ≤ 80) ∧
  ((er = none → S.fault = none) ∧ ∀ a, er = some a → ∃ p, S.fault = some p ∧ p < 1000 ∧ B a = some (syE (nI p))) ∧ ((re = none → S.why = 0) ∧ ∀ a, re = some a → ¬ S.why = 0 ∧ B a = some (reE S.why S.detail)) ∧ it = oI S.item
def CW (g : GP) (hb : AH) (x : Nat) (S : ST) (h : AH) : Prop := ∃ B f dq el hd lq sv sb bb cap tx ln er re it, CH g hb h x B f dq el hd lq sv sb bb cap tx ln er re it ∧ CS g B S f lq sv tx ln er re it
/-- no exception lies in hb -/
def HX (hb : AH) : Prop := ∀ q fs, hb q ≠ some (eO 6 fs) ∧ hb q ≠ some (eO 11 fs)
theorem eI_ne {c c2 : ClassId} {m m2 : Nat} {f : Nat → Int32} {f2 : Nat → Option Nat} : eI c m f ≠ eQ c2 m2 f2 := fun z => by
  injection z with z; injection z with z1 z2; injection z2 with z3 z4; cases z4
theorem FieldAt.up {g : GP} {B B2 : AH} {f : Nat} {s : SF} (hF : FieldAt g B f s) (hs : sub B B2) : FieldAt g B2 f s := by
  obtain ⟨a, ea, ma, ca, b, eb, mb, cb, d, ls, lh, h⟩ := hF
  exact ⟨a, ea, ma, ca, b, eb, mb, cb, d, ls, lh, h.up hs⟩
/-- what is new beside hb stands in B too -/
theorem FA.res {g : GP} {hb h B : AH} {f : Nat} {s : SF} {a ea : Nat} {ma : Int32} {ca b eb : Nat} {mb : Int32} {cb d : Nat} {ls lh : List Nat} (hF : FA g hb h f s a ea ma ca b eb mb cb d ls lh) (hB : ∀ q e, h q = some e → hb q = none → B q = some e) (h0 : ∀ e, h (gs g 0) = some e → B (gs g 0) = some e) : FieldAt g B f s := by
  obtain ⟨g0, g1, g2, g3, ⟨fd, g4, g5⟩, g6, g7, g8, g9, g10, g11, g12, g13, n1, n2, n3, n4, n5, n6, n7, n8⟩ := hF
  obtain ⟨f1, ha1⟩ := g2.arr
  obtain ⟨f2, hb1⟩ := g3.arr
  have key : ∀ y e, h y = some e → (y = gs g 0 ∨ hb y = none) → B y = h y := fun y e hy ho => by
    rcases ho with z | z
    · subst z; rw [h0 _ hy, hy]
    · rw [hB _ _ hy z, hy]
  refine ⟨a, ea, ma, ca, b, eb, mb, cb, d, ls, lh, ?_⟩
  exact ⟨(fun _ _ z => nomatch z), hB _ _ g1 n1, g2.keep (key _ _ g2.1 (Or.inr n2)) (key _ _ ha1 n5), g3.keep (key _ _ g3.1 (Or.inr n3)) (key _ _ hb1 n6), ⟨fd, hB _ _ g4 n4, g5⟩, g6, g7, fun k hk => hB _ _ (g8 k hk) (n7 k hk), fun k hk => hB _ _ (g9 k hk) (n8 k hk), g10, g11, g12, g13, rfl, rfl, rfl, rfl, Or.inr rfl, Or.inr rfl, fun _ _ => rfl, fun _ _ => rfl⟩
theorem DQ.keep {g : GP} {h h' : AH} {a el hd : Nat} {l : List Nat} (hD : DQ g h a el hd l) (h1 : h' a = h a) (h2 : h' el = h el) : DQ g h' a el hd l := by
  obtain ⟨g1, ⟨f, g2, g3⟩, g4⟩ := hD
  exact ⟨h1.trans g1, ⟨f, h2.trans g2, g3⟩, g4⟩
theorem DQ.up {g : GP} {h h' : AH} {a el hd : Nat} {l : List Nat} (hD : DQ g h a el hd l) (hs : sub h h') : DQ g h' a el hd l := by
  obtain ⟨g1, ⟨f, g2, g3⟩, g4⟩ := hD
  exact ⟨hs _ _ g1, ⟨f, hs _ _ g2, g3⟩, g4⟩
theorem DQ.arr {g : GP} {h : AH} {a el hd : Nat} {l : List Nat} (hD : DQ g h a el hd l) : ∃ f, h el = some (eQ (g.2.1 4) 17 f) := ⟨_, hD.2.1.choose_spec.1⟩
theorem SB.keep {g : GP} {h h' : AH} {a b cap : Nat} {s : List Nat} (hD : SB g h a b cap s) (h1 : h' a = h a) (h2 : h' b = h b) : SB g h' a b cap s := by
  obtain ⟨ha, ⟨f, he, hf⟩, h3⟩ := hD
  exact ⟨h1.trans ha, ⟨f, h2.trans he, hf⟩, h3⟩
theorem SB.arr {g : GP} {h : AH} {a b cap : Nat} {s : List Nat} (hD : SB g h a b cap s) : ∃ f, h b = some (eI (g.2.1 1) cap f) := ⟨_, hD.2.1.choose_spec.1⟩
theorem HQ.up {g : GP} {B B2 : AH} {lq : List Nat} {hs : List SF} (hQ : HQ g B lq hs) (h : sub B B2) : HQ g B2 lq hs := ⟨hQ.1, fun i r hi => (hQ.2 i r hi).up h⟩
theorem HQ.nil {g : GP} {B : AH} : HQ g B [] [] := ⟨rfl, fun i r h => by cases h⟩
theorem HQ.tl {g : GP} {B : AH} {y : Nat} {l : List Nat} {r : SF} {hs : List SF} (hQ : HQ g B (y :: l) (r :: hs)) : HQ g B l hs := ⟨Nat.succ.inj hQ.1, fun i r h => hQ.2 (i + 1) r h⟩
theorem HQ.snoc {g : GP} {B : AH} {f : Nat} {l : List Nat} {r : SF} {hs : List SF} (hQ : HQ g B l hs) (hF : FieldAt g B f r) : HQ g B (l ++ [f]) (hs ++ [r]) := by
  refine ⟨by rw [List.length_append, List.length_append, hQ.1]; rfl, fun i r2 h => ?_⟩
  by_cases z : i < hs.length
  · rw [List.getElem?_append_left z] at h
    rw [gD_a (by rw [hQ.1]; exact z)]
    exact hQ.2 i r2 h
  · by_cases z2 : i = hs.length
    · subst z2
      rw [List.getElem?_append_right (Nat.le_refl _), Nat.sub_self] at h
      cases h
      rw [gD_b hQ.1.symm]
      exact hF
    · rw [List.getElem?_eq_none (by rw [List.length_append]; show hs.length + 1 ≤ i; omega)] at h
      cases h
theorem HQ.ini {g : GP} {B : AH} {f : Nat} {l : List Nat} {r : SF} {hs : List SF} (hQ : HQ g B (l ++ [f]) (hs ++ [r])) : HQ g B l hs ∧ FieldAt g B f r := by
  obtain ⟨h1, h2⟩ := hQ
  rw [List.length_append, List.length_append] at h1
  have h1 : l.length = hs.length := Nat.succ.inj h1
  refine ⟨⟨h1, fun i r2 h => ?_⟩, ?_⟩
  · have hi : i < hs.length := by
      by_cases z : i < hs.length
      · exact z
      · rw [List.getElem?_eq_none (by omega)] at h; cases h
    have := h2 i r2 (by rw [List.getElem?_append_left hi]; exact h)
    rw [gD_a (by omega)] at this
    exact this
  · have := h2 hs.length r (by rw [List.getElem?_append_right (Nat.le_refl _), Nat.sub_self]; rfl)
    rw [gD_b h1.symm] at this
    exact this
theorem sub.put {B h : AH} {q : Nat} {e : va_E} (hB : sub B h) (hq : h q = some e) : sub B (hset B q e) := fun y e2 hy => by
  by_cases z : y = q
  · subst z; rw [hset_s]; exact hq.symm.trans (hB _ _ hy)
  · rw [hset_n z]; exact hy
theorem sub.put2 {B h : AH} {q : Nat} {e : va_E} (hB : sub B h) (hq : h q = some e) : sub (hset B q e) h := fun y e2 hy => by
  by_cases z : y = q
  · subst z; rw [hset_s] at hy; exact hq.trans hy
  · rw [hset_n z] at hy; exact hB _ _ hy
def mrg (h h3 B : AH) : AH := fun q => match h q with
  | none => h3 q
  | some _ => B q
theorem mrg_n {h h3 B : AH} {q : Nat} (n : h q = none) : mrg h h3 B q = h3 q := by unfold mrg; rw [n]
theorem mrg_s {h h3 B : AH} {q : Nat} {e : va_E} (n : h q = some e) : mrg h h3 B q = B q := by unfold mrg; rw [n]
section CHS
variable {g : GP} {hb h h' : AH} {x : Nat} {B : AH} {f f2 dq el hd hd2 : Nat} {lq lq2 : List Nat} {sv sv2 : Option Nat} {sb bb cap : Nat} {tx tx2 : List Nat} {ln ln2 : Nat} {er er2 re re2 : Option Nat} {it it2 : Int32}
theorem CH.up (hC : CH g hb h x B f dq el hd lq sv sb bb cap tx ln er re it) (hs : sub h h') : CH g hb h' x B f dq el hd lq sv sb bb cap tx ln er re it := by
  obtain ⟨c1, c2, c3, c4, c5, c6, c7, c8, c9⟩ := hC
  exact ⟨c1.tr hs, c2.tr hs, c3, c4, c5, hs _ _ c6, c7.up hs, c8.sub hs, c9⟩
theorem CH.ox (hC : CH g hb h x B f dq el hd lq sv sb bb cap tx ln er re it) : h x = some (clE f dq sv sb ln er it re) := hC.2.2.2.2.2.1
theorem CH.d (hC : CH g hb h x B f dq el hd lq sv sb bb cap tx ln er re it) : DQ g h dq el hd lq := hC.2.2.2.2.2.2.1
theorem CH.s (hC : CH g hb h x B f dq el hd lq sv sb bb cap tx ln er re it) : SB g h sb bb cap tx := hC.2.2.2.2.2.2.2.1
theorem CH.b (hC : CH g hb h x B f dq el hd lq sv sb bb cap tx ln er re it) : sub B h := hC.2.1
theorem CH.hs (hC : CH g hb h x B f dq el hd lq sv sb bb cap tx ln er re it) : sub hb h := hC.1
/-- q is none of the class's cells that change -/
theorem CH.ne (hC : CH g hb h x B f dq el hd lq sv sb bb cap tx ln er re it) {q : Nat} {e : va_E} (hq : h q = some e) (h1 : ∀ fs, e ≠ eO 0 fs) (h2 : ∀ fs, e ≠ eO 13 fs) (h3 : ∀ m fn, e ≠ eQ (g.2.1 4) m fn) (h4 : ∀ fs, e ≠ eO 14 fs) (h5 : ∀ m fn, e ≠ eI (g.2.1 1) m fn) : q ≠ x ∧ q ≠ dq ∧ q ≠ el ∧ q ≠ sb ∧ q ≠ bb := by
  obtain ⟨c1, c2, c3, c4, c5, c6, c7, c8, c9⟩ := hC
  obtain ⟨f1, c7a⟩ := c7.arr
  obtain ⟨f3, c8a⟩ := c8.arr
  refine ⟨fun z => ?_, fun z => ?_, fun z => ?_, fun z => ?_, fun z => ?_⟩
  · rw [z, c6] at hq; exact h1 _ (Option.some.inj hq).symm
  · rw [z, c7.1] at hq; exact h2 _ (Option.some.inj hq).symm
  · rw [z, c7a] at hq; exact h3 _ _ (Option.some.inj hq).symm
  · rw [z, c8.1] at hq; exact h4 _ (Option.some.inj hq).symm
  · rw [z, c8a] at hq; exact h5 _ _ (Option.some.inj hq).symm
theorem CH.setx (hC : CH g hb h x B f dq el hd lq sv sb bb cap tx ln er re it) : CH g hb (hset h x (clE f2 dq sv2 sb ln2 er2 it2 re2)) x B f2 dq el hd lq sv2 sb bb cap tx ln2 er2 re2 it2 := by
  obtain ⟨c1, c2, c3, c4, c5, c6, c7, c8, c9⟩ := hC
  obtain ⟨f1, c7a⟩ := c7.arr
  obtain ⟨f3, c8a⟩ := c8.arr
  refine ⟨c1.set c4.1, c2.set c5.1, c3, c4, c5, hset_s _ _ _, c7.keep (hset_n fun z => ?_) (hset_n fun z => ?_), c8.keep (hset_n fun z => ?_) (hset_n fun z => ?_), c9⟩
  · rw [← z, c7.1] at c6; cases c6
  · rw [← z, c7a] at c6; cases c6
  · rw [← z, c8.1] at c6; cases c6
  · rw [← z, c8a] at c6; cases c6
theorem CH.deq (hC : CH g hb h x B f dq el hd lq sv sb bb cap tx ln er re it) (hq : ∀ q, q ≠ dq → q ≠ el → h' q = h q) (hD : DQ g h' dq el hd2 lq2) : CH g hb h' x B f dq el hd2 lq2 sv sb bb cap tx ln er re it := by
  obtain ⟨c1, c2, c3, c4, c5, c6, c7, c8, c9⟩ := hC
  obtain ⟨f1, c7a⟩ := c7.arr
  obtain ⟨f3, c8a⟩ := c8.arr
  refine ⟨fun q e hy => ?_, fun q e hy => ?_, c3, c4, c5, (hq x (fun z => ?_) (fun z => ?_)).trans c6, hD, c8.keep (hq _ (fun z => ?_) (fun z => ?_)) (hq _ (fun z => ?_) (fun z => ?_)), c9⟩
  · exact (hq q (fun z => by rw [z, c4.2.1] at hy; cases hy) (fun z => by rw [z, c4.2.2.1] at hy; cases hy)).trans (c1 _ _ hy)
  · exact (hq q (fun z => by rw [z, c5.2.1] at hy; cases hy) (fun z => by rw [z, c5.2.2.1] at hy; cases hy)).trans (c2 _ _ hy)
  · rw [z, c7.1] at c6; cases c6
  · rw [z, c7a] at c6; cases c6
  · have := c8.1; rw [z, c7.1] at this; cases this
  · have := c8.1; rw [z, c7a] at this; cases this
  · rw [z, c7.1] at c8a; cases c8a
  · rw [z, c7a] at c8a; exact eI_ne (Option.some.inj c8a).symm
theorem CH.app (hC : CH g hb h x B f dq el hd lq sv sb bb cap tx ln er re it) (hA : APP g h sb bb tx2 h') : ∃ bb2 cap2, CH g hb h' x B f dq el hd lq sv sb bb2 cap2 tx2 ln er re it := by
  obtain ⟨c1, c2, c3, c4, c5, c6, c7, c8, c9⟩ := hC
  obtain ⟨f1, c7a⟩ := c7.arr
  obtain ⟨f3, c8a⟩ := c8.arr
  obtain ⟨b2, cap2, a1, a2, a3⟩ := hA
  have nb : ∀ H : AH, sub H h → H bb = none → H b2 = none := fun H hs hn => by
    rcases a2 with z | z
    · rw [z]; exact hn
    · exact hs.none z
  refine ⟨b2, cap2, fun q e hy => ?_, fun q e hy => ?_, c3, ⟨c4.1, c4.2.1, c4.2.2.1, c4.2.2.2.1, nb _ c1 c4.2.2.2.2⟩, ⟨c5.1, c5.2.1, c5.2.2.1, c5.2.2.2.1, nb _ c2 c5.2.2.2.2⟩, a3 _ _ c6 (fun z => ?_) (fun z => ?_), c7.keep ((a3 _ _ c7.1 (fun z => ?_) (fun z => ?_)).trans c7.1.symm) ((a3 _ _ c7a (fun z => ?_) (fun z => ?_)).trans c7a.symm), a1, c9⟩
  · exact a3 _ _ (c1 _ _ hy) (fun z => by rw [z, c4.2.2.2.1] at hy; cases hy) (fun z => by rw [z, c4.2.2.2.2] at hy; cases hy)
  · exact a3 _ _ (c2 _ _ hy) (fun z => by rw [z, c5.2.2.2.1] at hy; cases hy) (fun z => by rw [z, c5.2.2.2.2] at hy; cases hy)
  · rw [z, c8.1] at c6; cases c6
  · rw [z, c8a] at c6; cases c6
  · have := c8.1; rw [← z, c7.1] at this; cases this
  · rw [← z, c7.1] at c8a; cases c8a
  · have := c8.1; rw [← z, c7a] at this; cases this
  · rw [← z, c7a] at c8a; exact eI_ne (Option.some.inj c8a).symm
theorem CH.newsb {sb2 bb2 cap2 : Nat} (hC : CH g hb h x B f dq el hd lq sv sb bb cap tx ln er re it) (hS : SB g h sb2 bb2 cap2 tx2) (n1 : hb sb2 = none) (n2 : hb bb2 = none) (n3 : B sb2 = none) (n4 : B bb2 = none) : CH g hb (hset h x (clE f dq sv sb2 ln er it re)) x B f dq el hd lq sv sb2 bb2 cap2 tx2 ln er re it := by
  obtain ⟨c1, c2, c3, c4, c5, c6, c7, c8, c9⟩ := hC
  obtain ⟨f1, c7a⟩ := c7.arr
  obtain ⟨f3, c8a⟩ := hS.arr
  refine ⟨c1.set c4.1, c2.set c5.1, c3, ⟨c4.1, c4.2.1, c4.2.2.1, n1, n2⟩, ⟨c5.1, c5.2.1, c5.2.2.1, n3, n4⟩, hset_s _ _ _, c7.keep (hset_n fun z => ?_) (hset_n fun z => ?_), hS.keep (hset_n fun z => ?_) (hset_n fun z => ?_), c9⟩
  · rw [← z, c7.1] at c6; cases c6
  · rw [← z, c7a] at c6; cases c6
  · have := hS.1; rw [z, c6] at this; cases this
  · rw [← z, c8a] at c6; cases c6
theorem CH.addB (hC : CH g hb h x B f dq el hd lq sv sb bb cap tx ln er re it) {q : Nat} {e : va_E} (hq : h q = some e) (hn : hb q = none) (hne : q ≠ x ∧ q ≠ dq ∧ q ≠ el ∧ q ≠ sb ∧ q ≠ bb) : CH g hb h x (hset B q e) f dq el hd lq sv sb bb cap tx ln er re it := by
  obtain ⟨c1, c2, c3, c4, c5, c6, c7, c8, c9⟩ := hC
  obtain ⟨m1, m2, m3, m4, m5⟩ := hne
  refine ⟨c1, c2.put2 hq, fun y e2 hy => ?_, c4, ⟨(hset_n (Ne.symm m1)).trans c5.1, (hset_n (Ne.symm m2)).trans c5.2.1, (hset_n (Ne.symm m3)).trans c5.2.2.1, (hset_n (Ne.symm m4)).trans c5.2.2.2.1, (hset_n (Ne.symm m5)).trans c5.2.2.2.2⟩, c6, c7, c8, c2.put hq _ _ c9⟩
  rw [hset_n (fun z => by rw [z, hn] at hy; cases hy)]
  exact c3 _ _ hy
/-- all that is new since h never changes any more -/
theorem CH.base (hC : CH g hb h x B f dq el hd lq sv sb bb cap tx ln er re it) (hs : sub h h') : CH g hb h' x (mrg h h' B) f dq el hd lq sv sb bb cap tx ln er re it ∧ sub B (mrg h h' B) ∧ (∀ q e, h' q = some e → h q = none → mrg h h' B q = some e) ∧ ∀ e, h' (gs g 0) = some e → mrg h h' B (gs g 0) = some e := by
  have hC' := hC.up hs
  obtain ⟨c1, c2, c3, c4, c5, c6, c7, c8, c9⟩ := hC
  obtain ⟨f1, c7a⟩ := c7.arr
  obtain ⟨f3, c8a⟩ := c8.arr
  have hB : sub B (mrg h h' B) := fun q e hq => by rw [mrg_s (c2 _ _ hq)]; exact hq
  refine ⟨⟨c1.tr hs, fun q e hq => ?_, fun q e hq => by rw [mrg_s (c1 _ _ hq)]; exact c3 _ _ hq, c4, ⟨by rw [mrg_s c6]; exact c5.1, by rw [mrg_s c7.1]; exact c5.2.1, by rw [mrg_s c7a]; exact c5.2.2.1, by rw [mrg_s c8.1]; exact c5.2.2.2.1, by rw [mrg_s c8a]; exact c5.2.2.2.2⟩, hC'.ox, hC'.d, hC'.s, hB _ _ c9⟩, hB, fun q e hq hn => by rw [mrg_n hn]; exact hq, fun e he => ?_⟩
  · cases hh : h q with
    | none => rw [mrg_n hh] at hq; exact hq
    | some e2 => rw [mrg_s hh] at hq; exact hs _ _ (c2 _ _ hq)
  · rw [hB _ _ c9, ← he]; exact (hs _ _ (c2 _ _ c9)).symm
/-- a cell beside it is written -/
theorem CH.hput (hC : CH g hb h x B f dq el hd lq sv sb bb cap tx ln er re it) {q : Nat} {e e2 : va_E} (hq : hb q = some e) : CH g (hset hb q e2) (hset h q e2) x B f dq el hd lq sv sb bb cap tx ln er re it := by
  obtain ⟨c1, c2, c3, c4, c5, c6, c7, c8, c9⟩ := hC
  have ne : ∀ y, hb y = none → y ≠ q := fun y hy z => by rw [z, hq] at hy; cases hy
  refine ⟨fun y e3 hy => ?_, c2.set (c3 _ _ hq), fun y e3 hy => ?_, ⟨(hset_n (ne _ c4.1)).trans c4.1, (hset_n (ne _ c4.2.1)).trans c4.2.1, (hset_n (ne _ c4.2.2.1)).trans c4.2.2.1, (hset_n (ne _ c4.2.2.2.1)).trans c4.2.2.2.1, (hset_n (ne _ c4.2.2.2.2)).trans c4.2.2.2.2⟩, c5, (hset_n (ne _ c4.1)).trans c6, c7.keep (hset_n (ne _ c4.2.1)) (hset_n (ne _ c4.2.2.1)), c8.keep (hset_n (ne _ c4.2.2.2.1)) (hset_n (ne _ c4.2.2.2.2)), c9⟩
  · by_cases z : y = q
    · subst z; rw [hset_s] at hy; rw [hset_s]; exact hy
    · rw [hset_n z] at hy; rw [hset_n z]; exact c1 _ _ hy
  · by_cases z : y = q
    · subst z; exact c3 _ _ hq
    · rw [hset_n z] at hy; exact c3 _ _ hy
end CHS
section CSS
variable {g : GP} {B B2 : AH} {S : ST} {f : Nat} {lq : List Nat} {sv : Option Nat} {tx : List Nat} {ln : Nat} {er re : Option Nat} {it : Int32}
theorem CS.up (hS : CS g B S f lq sv tx ln er re it) (hs : sub B B2) : CS g B2 S f lq sv tx ln er re it := by
  obtain ⟨s1, s2, s3, s4, ⟨ol, s5, s6⟩, ⟨s7, s8⟩, ⟨s9, s10⟩, s11⟩ := hS
  refine ⟨s1.up hs, s2.up hs, ?_, s4, ⟨ol, s5.up hs, s6⟩, ⟨s7, fun a ha => ?_⟩, ⟨s9, fun a ha => ⟨(s10 a ha).1, hs _ _ (s10 a ha).2⟩⟩, s11⟩
  · rcases s3 with z | ⟨r, a, z1, z2, z3⟩
    · exact Or.inl z
    · exact Or.inr ⟨r, a, z1, z2, z3.up hs⟩
  · obtain ⟨p, z1, z2, z3⟩ := s8 a ha
    exact ⟨p, z1, z2, hs _ _ z3⟩
end CSS
theorem GG.nc {g : GP} {U : State} {H : Heap} (h : GG g U H) {a b : String} (hm : (a, b) ∈ ncs) : va_Nc a b U := h.2.2.2.2.2.2.1 _ hm
/-- no handler is there at pc -/
theorem out_of {M : MC} {hh : List (Nat × Nat × Nat × Nat)} (hnx : (Mc M).exceptionTable.toList = tableOf hh) {pc : Nat} (h : hh.all (fun q => !(decide (q.1 ≤ pc) && decide (pc < q.2.1))) = true) : ∀ z ∈ (Mc M).exceptionTable.toList, covers z pc = false := fun z hz => by
  rw [hnx] at hz
  obtain ⟨q, hq, rfl⟩ := List.mem_map.mp hz
  have := List.all_eq_true.mp h q hq
  rw [Bool.not_eq_true'] at this
  exact this
