/-! STRINGBUILDERS -/
set_option maxRecDepth 100000
/-- the builder at a holds the letters s, in the bytes at b with cap places -/
def SB (g : GP) (h : AH) (a b cap : Nat) (s : List Nat) : Prop :=
  h a = some (eO 14 [.ref b, .int 0, .int 0, .int (nI s.length)]) ∧ (∃ f, h b = some (eI (g.2.1 1) cap f) ∧ (∀ i, i < s.length → f i = sb_b (s.getD i 0)) ∧ sb_Fit f) ∧ s.length ≤ cap ∧ 0 < cap ∧ cap < 200 ∧ gB g ≤ b
theorem SB.ne {g : GP} {h : AH} {a b cap : Nat} {s : List Nat} (hD : SB g h a b cap s) : b ≠ a := by
  obtain ⟨ha, ⟨f, he, hf⟩, h1⟩ := hD
  exact fun q => by rw [q, ha] at he; cases he
/-- afterwards the builder at a, that was in the bytes at b, holds s -/
def APP (g : GP) (h : AH) (a b : Nat) (s : List Nat) (h' : AH) : Prop :=
  ∃ b' cap', SB g h' a b' cap' s ∧ (b' = b ∨ h b' = none) ∧ ∀ q e, h q = some e → q ≠ a → q ≠ b → h' q = some e
theorem hset_comm {h : AH} {a b : Nat} {e e' : va_E} (hn : b ≠ a) : hset (hset h a e) b e' = hset (hset h b e') a e := by
  funext q
  by_cases h1 : q = a
  · subst h1; rw [hset_n (Ne.symm hn), hset_s, hset_s]
  · by_cases h2 : q = b
    · subst h2; rw [hset_s, hset_n h1, hset_s]
    · rw [hset_n h2, hset_n h1, hset_n h1, hset_n h2]
theorem getD_cat {s t : List Nat} {i : Nat} : (s ++ t).getD i 0 = if i < s.length then s.getD i 0 else t.getD (i - s.length) 0 := by
  rw [List.getD_eq_getElem?_getD, List.getD_eq_getElem?_getD, List.getD_eq_getElem?_getD]
  by_cases h : i < s.length
  · rw [if_pos h, List.getElem?_append_left h]
  · rw [if_neg h, List.getElem?_append_right (by omega)]
theorem APP.gen {g : GP} {h h2 : AH} {a b b2 cap2 : Nat} {s : List Nat} {f3 : Nat → Int32} (hne : b2 ≠ a) (hff : ∀ i, i < s.length → f3 i = sb_b (s.getD i 0)) (hfit : sb_Fit f3) (hn : s.length ≤ cap2) (h0 : 0 < cap2) (hc : cap2 < 200) (hB : gB g ≤ b2) (hb2 : b2 = b ∨ h b2 = none) (hf2 : ∀ q e, h q = some e → q ≠ a → h2 q = some e) : APP g h a b s (hset (hset h2 b2 (eI (g.2.1 1) cap2 f3)) a (eO 14 [.ref b2, .int 0, .int 0, .int (nI s.length)])) := by
  refine ⟨b2, cap2, ⟨hset_s _ _ _, ⟨_, (hset_n hne).trans (hset_s _ _ _), hff, hfit⟩, hn, h0, hc, hB⟩, hb2, fun q e h1 h3 h4 => ?_⟩
  have hqb : q ≠ b2 := fun z => by
    rcases hb2 with z2 | z2
    · exact h4 (z.trans z2)
    · rw [z, z2] at h1; cases h1
  rw [hset_n h3, hset_n hqb]
  exact hf2 q e h1 h3
theorem sb_nar : ∀ c, c < 128 → vp_nar .byte (sb_b c) = sb_b c := by decide +kernel
theorem sCh_fit (s : List Nat) : sb_Fit (sCh s) := fun _ => sb_fitB _
/-- letters of a number up to 99 -/
def dgN (v : Nat) : List Nat := (if 9 < v then [48 + v / 10] else []) ++ [48 + v % 10]
def gch (f : Nat → Int32) (p v : Nat) : Nat → Int32 := if 9 < v then upd (upd f (p + 1) (sb_b (48 + v % 10))) p (sb_b (48 + v / 10)) else upd f p (sb_b (48 + v % 10))
theorem gch_fit {f : Nat → Int32} {p v : Nat} (h : sb_Fit f) : sb_Fit (gch f p v) := by
  unfold gch
  split
  · exact sb_fitU (sb_fitU h (sb_fitB _)) (sb_fitB _)
  · exact sb_fitU h (sb_fitB _)
theorem gch_ok {f : Nat → Int32} {s : List Nat} {v : Nat} (hf : ∀ i, i < s.length → f i = sb_b (s.getD i 0)) : ∀ i, i < (s ++ dgN v).length → gch f s.length v i = sb_b ((s ++ dgN v).getD i 0) := by
  intro i hi
  rw [getD_cat]
  unfold gch dgN at *
  rw [List.length_append] at hi
  by_cases h9 : 9 < v
  · simp only [h9, if_true, List.cons_append, List.nil_append, List.length_cons, List.length_nil] at hi ⊢
    by_cases h1 : i < s.length
    · rw [if_pos h1, ← hf i h1]
      simp [upd, show i ≠ s.length by omega, show i ≠ s.length + 1 by omega]
    · rw [if_neg h1]
      by_cases h2 : i = s.length
      · subst h2; simp [upd]
      · have h3 : i = s.length + 1 := by omega
        subst h3
        simp [upd, show s.length + 1 - s.length = 1 by omega]
  · simp only [h9, if_false, List.nil_append, List.length_cons, List.length_nil] at hi ⊢
    by_cases h1 : i < s.length
    · rw [if_pos h1, ← hf i h1]
      simp [upd, show i ≠ s.length by omega]
    · rw [if_neg h1]
      have h3 : i = s.length := by omega
      subst h3
      simp [upd]
theorem dgN_len (v : Nat) : (dgN v).length = if 9 < v then 2 else 1 := by unfold dgN; split <;> rfl
theorem cpy_ok {f : Nat → Int32} {s t : List Nat} (hf : ∀ i, i < s.length → f i = sb_b (s.getD i 0)) : ∀ i, i < (s ++ t).length → va_cpy (sCh t) f 0 s.length t.length i = sb_b ((s ++ t).getD i 0) := by
  intro i hi
  rw [getD_cat]
  rw [List.length_append] at hi
  unfold va_cpy
  by_cases h1 : i < s.length
  · rw [if_neg (by omega), if_pos h1, hf i h1]
  · rw [if_pos (by omega), if_neg h1, Nat.zero_add]
    rfl
/-- only the places within an array count -/
theorem AW.arI {g : GP} {M : MC} {own : String} {cc : ByteArray} {nL : Nat} {rt : Option FieldType} {R : Room} {k n pc : Nat} {L : List (Option Value)} {st : List Value} {h : AH} {q m : Nat} {c : ClassId} {f f' : Nat → Int32} (cx : CX g M own cc nL rt R) (hq : h q = some (eI c m f)) (hB : gB g ≤ q) (e : ∀ i, i < m → f' i = f i) (K : AW g M k n pc L st (hset h q (eI c m f'))) : AW g M k n pc L st h := fun H locs ls hH hk hS hl => by
  refine K H locs ls (fun a e9 ha => ?_) (hk.set cx.hG.ss hB) hS hl
  by_cases ha9 : a = q
  · subst ha9
    rw [hset_s] at ha
    cases ha
    have h1 : H[a]? = some (vp_cell c (m, .inl f)) := hH a _ hq
    show H[a]? = some (vp_cell c (m, .inl f'))
    rw [h1]
    congr 1
    show arrV c m (fun j => .int (f j)) = arrV c m (fun j => .int (f' j))
    unfold arrV
    congr 1
    congr 1
    funext j
    show Value.int (f j.val) = Value.int (f' j.val)
    rw [e j.val j.isLt]
  · rw [hset_n ha9] at ha
    exact hH a e9 ha
theorem APP.put {g : GP} {h h2 : AH} {a b b2 cap2 c : Nat} {s : List Nat} {f2 : Nat → Int32} (hne : b2 ≠ a) (hff : ∀ i, i < s.length → f2 i = sb_b (s.getD i 0)) (hfit : sb_Fit f2) (hn : s.length + 1 ≤ cap2) (hc : cap2 < 200) (hB : gB g ≤ b2) (hb2 : b2 = b ∨ h b2 = none) (hf2 : ∀ q e, h q = some e → q ≠ a → h2 q = some e) : APP g h a b (s ++ [c]) (hset (hset h2 a (eO 14 [.ref b2, .int 0, .int 0, .int (nI (s.length + 1))])) b2 (eI (g.2.1 1) cap2 (upd f2 s.length (sb_b c)))) := by
  have hlen : (s ++ [c]).length = s.length + 1 := by rw [List.length_append]; rfl
  rw [hset_comm hne, ← hlen]
  refine APP.gen hne (fun i hi => ?_) (sb_fitU hfit (sb_fitB c)) (by omega) (by omega) hc hB hb2 hf2
  rw [getD_app2]
  by_cases h1 : i < s.length
  · rw [if_pos h1, ← hff i h1]; simp [upd, show i ≠ s.length by omega]
  · rw [if_neg h1, if_pos (by omega), show i = s.length by omega]; simp [upd]
theorem APP.cat {g : GP} {h h2 : AH} {a b b2 cap2 : Nat} {s t : List Nat} {f2 : Nat → Int32} (hne : b2 ≠ a) (hff : ∀ i, i < s.length → f2 i = sb_b (s.getD i 0)) (hfit : sb_Fit f2) (hn : s.length + t.length ≤ cap2) (h0 : 0 < cap2) (hc : cap2 < 200) (hB : gB g ≤ b2) (hb2 : b2 = b ∨ h b2 = none) (hf2 : ∀ q e, h q = some e → q ≠ a → h2 q = some e) : APP g h a b (s ++ t) (hset (hset h2 b2 (eI (g.2.1 1) cap2 (va_cpy (sCh t) f2 0 s.length t.length))) a (eO 14 [.ref b2, .int 0, .int 0, .int (nI (s.length + t.length))])) := by
  rw [← List.length_append]
  exact APP.gen hne (cpy_ok hff) (sb_fitC (sCh_fit t) hfit) (by rw [List.length_append]; exact hn) h0 hc hB hb2 hf2
theorem APP.num {g : GP} {h h2 : AH} {a b b2 cap2 v : Nat} {s : List Nat} {f2 : Nat → Int32} (hne : b2 ≠ a) (hff : ∀ i, i < s.length → f2 i = sb_b (s.getD i 0)) (hfit : sb_Fit f2) (hn : s.length + (dgN v).length ≤ cap2) (h0 : 0 < cap2) (hc : cap2 < 200) (hB : gB g ≤ b2) (hb2 : b2 = b ∨ h b2 = none) (hf2 : ∀ q e, h q = some e → q ≠ a → h2 q = some e) : APP g h a b (s ++ dgN v) (hset (hset h2 b2 (eI (g.2.1 1) cap2 (gch f2 s.length v))) a (eO 14 [.ref b2, .int 0, .int 0, .int (nI (s.length + (dgN v).length))])) := by
  rw [← List.length_append]
  exact APP.gen hne (gch_ok hff) (gch_fit hfit) (by rw [List.length_append]; exact hn) h0 hc hB hb2 hf2
/-- the String s stands at a, its hash not asked yet -/
def StrF (g : GP) (h : AH) (a : Nat) (s : List Nat) : Prop :=
  ∃ b : Nat, h a = some (eO 15 [.ref b, .int 0, .int 0, .int 0]) ∧ h b = some (eI (g.2.1 1) s.length (sCh s)) ∧ gB g ≤ a ∧ gB g ≤ b
theorem StrF.str {g : GP} {h : AH} {a : Nat} {s : List Nat} (hS : StrF g h a s) : StrAt g h a s := by
  obtain ⟨b, h1, h2, h3, h4⟩ := hS
  exact ⟨b, 0, 0, h1, h2, Or.inl ⟨rfl, rfl⟩⟩
/-- .. made since h -/
def StrN (g : GP) (h0 h : AH) (a : Nat) (s : List Nat) : Prop :=
  ∃ b : Nat, h0 b = none ∧ h a = some (eO 15 [.ref b, .int 0, .int 0, .int 0]) ∧ h b = some (eI (g.2.1 1) s.length (sCh s)) ∧ gB g ≤ a ∧ gB g ≤ b
theorem StrN.f {g : GP} {h0 h : AH} {a : Nat} {s : List Nat} (hS : StrN g h0 h a s) : StrF g h a s := by
  obtain ⟨b, h0, h1, h2, h3, h4⟩ := hS
  exact ⟨b, h1, h2, h3, h4⟩
theorem sb_nard : ∀ v, v < 10 → vp_nar .byte (dOnes v) = sb_b (48 + v) := by decide +kernel
theorem SB.sub {g : GP} {h h' : AH} {a b cap : Nat} {s : List Nat} (hD : SB g h a b cap s) (hs : ∀ x e, h x = some e → h' x = some e) : SB g h' a b cap s := by
  obtain ⟨ha, ⟨f, he, hf⟩, h1⟩ := hD
  exact ⟨hs _ _ ha, ⟨f, hs _ _ he, hf⟩, h1⟩
