/-! THE FIELD, 3: what lies beside it -/
set_option maxRecDepth 100000
section FAS3
variable {g : GP} {hb h h' hb' : AH} {f : Nat} {s s' : SF} {a ea : Nat} {ma ma' : Int32} {ca b eb : Nat} {mb mb' : Int32} {cb d : Nat} {ls lh : List Nat}
/-- less is known beside it -/
theorem FA.less (hF : FA g hb h f s a ea ma ca b eb mb cb d ls lh) (hs : sub hb' hb) : FA g hb' h f s a ea ma ca b eb mb cb d ls lh := by
  obtain ⟨g0, g1, g2, g3, g4, g6, g7, g8, g9, g10, g11, g12, g13, g14⟩ := hF
  exact ⟨hs.tr g0, g1, g2, g3, g4, g6, g7, g8, g9, g10, g11, g12, g13, hs.none g14.1, hs.none g14.2.1, hs.none g14.2.2.1, hs.none g14.2.2.2.1, g14.2.2.2.2.1.imp id hs.none, g14.2.2.2.2.2.1.imp id hs.none, fun k hk => hs.none (g14.2.2.2.2.2.2.1 k hk), fun k hk => hs.none (g14.2.2.2.2.2.2.2 k hk)⟩
theorem FA.at (hF : FA g hb h f s a ea ma ca b eb mb cb d ls lh) : FieldAt g h f s := ⟨a, ea, ma, ca, b, eb, mb, cb, d, ls, lh, hF.less (fun _ _ z => nomatch z)⟩
/-- a cell beside it is made or written -/
theorem FA.put (hF : FA g hb h f s a ea ma ca b eb mb cb d ls lh) {q : Nat} {e : va_E} (h0 : q ≠ gs g 0) (hq : (∃ e0, hb q = some e0) ∨ h q = none) : FA g (hset hb q e) (hset h q e) f s a ea ma ca b eb mb cb d ls lh := by
  obtain ⟨g0, g1, g2, g3, ⟨fd, g4, g5⟩, g6, g7, g8, g9, g10, g11, g12, g13, g14⟩ := hF
  have key : ∀ x e1, h x = some e1 → hb x = none → x ≠ q := fun x e1 hx hbx z => by
    rcases hq with ⟨e0, hq⟩ | hq
    · rw [← z, hbx] at hq; cases hq
    · rw [← z, hx] at hq; cases hq
  have k1 := key f _ g1 g14.1
  have k2 := key a _ g2.1 g14.2.1
  have k3 := key b _ g3.1 g14.2.2.1
  have k4 := key d _ g4 g14.2.2.2.1
  obtain ⟨f1, ha1⟩ := g2.arr
  obtain ⟨f2, hb1⟩ := g3.arr
  have k5 : ea ≠ q := g14.2.2.2.2.1.elim (fun z => by rw [z]; exact Ne.symm h0) (fun z => key ea _ ha1 z)
  have k6 : eb ≠ q := g14.2.2.2.2.2.1.elim (fun z => by rw [z]; exact Ne.symm h0) (fun z => key eb _ hb1 z)
  refine ⟨fun x e1 hx => ?_, (hset_n k1).trans g1, g2.keep (hset_n k2) (hset_n k5), g3.keep (hset_n k3) (hset_n k6), ⟨fd, (hset_n k4).trans g4, g5⟩, g6, g7, fun k hk => (hset_n (key _ _ (g8 k hk) (g14.2.2.2.2.2.2.1 k hk))).trans (g8 k hk), fun k hk => (hset_n (key _ _ (g9 k hk) (g14.2.2.2.2.2.2.2 k hk))).trans (g9 k hk), g10, g11, g12, g13,
    (hset_n k1).trans g14.1, (hset_n k2).trans g14.2.1, (hset_n k3).trans g14.2.2.1, (hset_n k4).trans g14.2.2.2.1, g14.2.2.2.2.1.imp id (fun z => (hset_n k5).trans z), g14.2.2.2.2.2.1.imp id (fun z => (hset_n k6).trans z), fun k hk => (hset_n (key _ _ (g8 k hk) (g14.2.2.2.2.2.2.1 k hk))).trans (g14.2.2.2.2.2.2.1 k hk), fun k hk => (hset_n (key _ _ (g9 k hk) (g14.2.2.2.2.2.2.2 k hk))).trans (g14.2.2.2.2.2.2.2 k hk)⟩
  by_cases z : x = q
  · rw [z, hset_s] at hx; rw [z, hset_s]; exact hx
  · rw [hset_n z] at hx; rw [hset_n z]; exact g0 x e1 hx
end FAS3
/-- a fresh list grows -/
theorem ADD.fresh {g : GP} {h0 h1 h' : AH} {q ed x : Nat} {mc : Int32} {l : List Nat} (hs : sub h0 h1) (nq : h0 q = none) (ne : ed = gs g 0 ∨ h0 ed = none) (hA : ADD g h1 q ed mc l x h') {fn : Nat → Option Nat} (kc : h' (gs g 0) = some (eQ (g.2.1 4) 0 fn)) :
    ∃ ed' cap', AL g h' q ed' mc cap' (l ++ [x]) ∧ sub h0 h' ∧ (ed' = gs g 0 ∨ h0 ed' = none) ∧ (∀ y e, h1 y = some e → y ≠ q → y ≠ ed → h' y = some e) := by
  obtain ⟨ed', cap', hA1, hA2, hA3⟩ := hA
  have hne0 := hA1.ne0 (by rw [List.length_append]; exact Nat.succ_pos _) kc
  refine ⟨ed', cap', hA1, fun y e hy => ?_, ?_, fun y e h1 h2 h3 => hA3 y e h1 h2 (fun z => absurd z h3)⟩
  · refine hA3 y e (hs y e hy) (fun z => by rw [z, nq] at hy; cases hy) (fun z z2 => ?_)
    rcases ne with n | n
    · exact hne0 (z2.trans n)
    · rw [z, n] at hy; cases hy
  · rcases hA2 with z | z
    · rw [z]; exact ne
    · exact Or.inr (hs.none z)
/-- the strays among the first sheep -/
def srl (s : SF) (ls : List Nat) : Nat → List Nat
  | 0 => []
  | k + 1 => srl s ls k ++ (if stray s k = true then [ls.getD k 0] else [])
theorem srl_len (s : SF) (ls : List Nat) : ∀ n, (srl s ls n).length = strm s n := by
  intro n
  induction n with
  | zero => rfl
  | succ n ih => rw [srl, List.length_append, ih, strm]; split <;> rfl
theorem srl_mem {s : SF} {ls : List Nat} {y : Nat} : ∀ {n : Nat}, y ∈ srl s ls n → ∃ k, k < n ∧ y = ls.getD k 0 := by
  intro n
  induction n with
  | zero => intro h; cases h
  | succ n ih =>
    intro h
    rcases List.mem_append.mp h with h | h
    · obtain ⟨k, hk, e⟩ := ih h; exact ⟨k, by omega, e⟩
    · split at h
      · rw [List.mem_singleton] at h; exact ⟨n, by omega, h⟩
      · cases h
theorem ol_val (s : SF) : ∀ n, ((ol s n).1 = none → (ol s n).2 = 0) ∧ ∀ b, (ol s n).1 = some b → (ol s n).2 = wfar s b ∧ 0 < wfar s b := by
  intro n
  induction n with
  | zero => exact ⟨fun _ => rfl, fun b h => by cases h⟩
  | succ n ih =>
    rw [ol]
    split
    · rename_i h
      refine ⟨fun z => (by cases z), fun b hb => ?_⟩
      cases hb
      refine ⟨rfl, ?_⟩
      cases ho : (ol s n).1 with
      | none => rw [ih.1 ho] at h; exact h
      | some b =>
        obtain ⟨e1, e2⟩ := ih.2 b ho
        rw [e1] at h
        rw [Int32.lt_iff_toInt_lt] at *
        omega
    · exact ih
