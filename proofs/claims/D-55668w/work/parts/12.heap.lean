set_option maxRecDepth 100000
/-! what a pool entry of a field says: allC's class ci, its field k, of type ty -/
def FL (own : String) (index ci k : Nat) (ty : FieldType) (fin nest : Bool) : Prop := ∃ (C : String) (T : u_T) (N : Nat) (ref : String), allC[ci]? = some (C, T, N) ∧ (∀ w ∈ u_ws C T N, w ∈ lw_all) ∧ (∃ ty0 : Nat → FieldType, ∀ k, k < N → parseFieldDescriptor (T k).2.2.1 = some (ty0 k)) ∧ (∀ a, a < N → ∀ b, b < N → a ≠ b → (T a).2.1 ≠ (T b).2.1) ∧ k < N ∧
  (if nest = true then ∃ host, Cond.fieldLinkNest own index ref (T k).2.1 (T k).2.2.1 host ∈ lw_tbl else Cond.fieldLink own index ref (T k).2.1 (T k).2.2.1 ∈ lw_all) ∧ (ref = (T k).1 ∨ Cond.sameField ref (T k).1 (T k).2.1 (T k).2.2.1 ∈ lw_all) ∧ parseFieldDescriptor (T k).2.2.1 = some ty ∧ (T k).2.2.2 = fin ∧ (fin = true → nest = false ∧ (T k).1 = own)
theorem hp1 {D : va_G} {cl : List vw_C} {h : AH} {H : Heap} (hH : HP D cl h H) {a : Nat} {e : va_E} (ha : h a = some e) : va_P D cl [(a, e)] H := by
  intro k q hk
  cases k with
  | zero => simp at hk; subst hk; exact hH a e ha
  | succ k => simp at hk
theorem FL.same {own : String} {index ci k : Nat} {ty : FieldType} {ref : String} {T : u_T} {s : State} {args : Array Value} (hts : ∀ w ∈ lw_all, w.before args s = true) (h : ref = (T k).1 ∨ Cond.sameField ref (T k).1 (T k).2.1 (T k).2.2.1 ∈ lw_all) : ∀ x, s.fieldFound? (T k).1 (T k).2.1 (T k).2.2.1 = some x → s.fieldFound? ref (T k).2.1 (T k).2.2.1 = some x := by
  rcases h with h | h
  · rw [h]; exact fun x hx => hx
  · exact u_same (hts _ h)
/-- .. enough to read it -/
def FG (own : String) (index ci k : Nat) (nest : Bool) : Prop := ∃ (C : String) (T : u_T) (N : Nat) (ref : String), allC[ci]? = some (C, T, N) ∧ (∀ w ∈ u_ws C T N, w ∈ lw_all) ∧ k < N ∧ (if nest = true then ∃ host, Cond.fieldLinkNest own index ref (T k).2.1 (T k).2.2.1 host ∈ lw_tbl else Cond.fieldLink own index ref (T k).2.1 (T k).2.2.1 ∈ lw_all) ∧ (ref = (T k).1 ∨ Cond.sameField ref (T k).1 (T k).2.1 (T k).2.2.1 ∈ lw_all)
theorem FL.g {own : String} {index ci k : Nat} {ty : FieldType} {fin nest : Bool} (f : FL own index ci k ty fin nest) : FG own index ci k nest := by
  obtain ⟨C, T, N, ref, hc, hin, -, -, hj, hlink, hsame, -⟩ := f
  exact ⟨C, T, N, ref, hc, hin, hj, hlink, hsame⟩
theorem a_get {g : GP} {M : MC} {own : String} {cc : ByteArray} {nL : Nat} {rt : Option FieldType} {R : Room} {k n pc : Nat} {L : List (Option Value)} {st : List Value} {h : AH} {index ci j : Nat} {nest : Bool} {a : Nat} {fs : List Value} {v : Value} (cx : CX g M own cc nL rt R) (f : FG own index ci j nest) (d : decode cc pc = .ok (.getfield index, 3)) (ha : h a = some (eO ci fs)) (hv : fs[j]? = some v) (K : AW g M k n (pc + 3) L (v :: st) h) : AW g M k n pc L (.ref a :: st) h := by
  intro H locs ls hH hk hS hl
  obtain ⟨C, T, N, ref, hc, hin, hj, hlink, hsame⟩ := f
  cases nest with
  | true =>
    obtain ⟨host, hlk⟩ := hlink
    exact va_getN cx.hx cx.hb cx.hts hin cx.hown cx.hG.K (hp1 hH ha) 0 rfl hc j hj (cx.hG.nest hlk rfl) (FL.same (own := own) (index := index) (ci := ci) (ty := .int) cx.hts hsame) hv d (K H locs ls hH hk hS hl)
  | false => exact va_get cx.hx cx.hb cx.hts hin cx.hown cx.hG.K (hp1 hH ha) 0 rfl hc j hj (cx.hts _ hlink) (FL.same (own := own) (index := index) (ci := ci) (ty := .int) cx.hts hsame) hv d (K H locs ls hH hk hS hl)
theorem a_putB {g : GP} {M : MC} {own : String} {cc : ByteArray} {nL : Nat} {rt : Option FieldType} {R : Room} {k n pc : Nat} {L : List (Option Value)} {st : List Value} {h : AH} {index ci j : Nat} {ty : FieldType} {nest : Bool} {a : Nat} {fs : List Value} {v : Value} (cx : CX g M own cc nL rt R) (f : FL own index ci j ty false nest) (d : decode cc pc = .ok (.putfield index, 3)) (ha : h a = some (eO ci fs)) (hB : gB g ≤ a) (hn : narrow ty v = v) (hfit : fits ty v = true) (hlt : j < fs.length) (K : AW g M k n (pc + 3) L st (hset h a (eO ci (fs.set j v)))) : AW g M k n pc L (v :: .ref a :: st) h := by
  intro H locs ls hH hk hS hl
  obtain ⟨C, T, N, ref, hc, hin, ⟨ty0, hty⟩, hnm, hj, hlink, hsame, hd, hfin, -⟩ := f
  have hap := va_apart (own := own) cx.hts hin ty0 hty hnm cx.hG.K hc
  obtain ⟨r, h1, cell, q1, q2, q3, q4⟩ := hH a _ ha
  have hr : r = (C, T, N) := Option.some.inj (h1.symm.trans hc)
  subst hr
  obtain ⟨hSl, hfc, kC, hkC, hkind⟩ := cx.hG.K.1 ci _ hc
  obtain ⟨cf, kf, fi, f, hi, hsl⟩ := hSl j hj
  have hlay := cx.hts _ (hin _ (u_in_lay hj))
  unfold u_lay at hlay
  rw [if_neg (by rw [hfin]; decide)] at hlay
  have hst := (u_facts hfc hkC (u_lays cx.hts hin hj) hi).1
  have h6 := u_store hfc hkC hkind hlay hi hd hn hfit
  have hsm := FL.same (own := own) (index := index) (ci := ci) (ty := ty) cx.hts hsame
  have fin : ∀ (H' : Heap), H'[a]? = some (cell.setSlot f.slot v) → H'.size = H.size → (∀ q, q ≠ a → H'[q]? = H[q]?) → W (Mp M) (Ml M) (Me M) (MR M) (Ms M) (Mm M) (Ma M) (Mb M) (Mt M) (Mc M) H' (locs ++ [⟨a, f.slot⟩]) k n (Mq M) (F0 (Mm M) (pc + 3) ls st) := by
    intro H' e1 e2 e3
    rw [hsl] at e1 ⊢
    exact K H' _ ls (hH.set ⟨_, hc, t_OB.to (V := updV (vp_V fs) j v) ⟨_, e1, q2, q3, t_set q4 hap hj v⟩ (fun i _ => vp_updV_set hlt v i)⟩ e3) (hk.set cx.hG.ss hB) (hS.put e2 e3 hB) hl
  cases nest with
  | true =>
    obtain ⟨host, hlk⟩ := hlink
    exact va_WputK cx.hx cx.hb (f := f) cx.hown (cx.hG.nest hlk rfl) (hsm _ hi) hst (by rw [q2]; exact h6) q1 q3 (by rw [hsl]; exact k2_hasslot (q4 j hj)) rfl rfl d fin
  | false => exact W.putK cx.hx cx.hb (f := f) ⟨cx.hown, cx.hts _ hlink, ⟨_, _, _, hsm _ hi⟩, hst⟩ (by rw [q2]; exact h6) q1 q3 (by rw [hsl]; exact k2_hasslot (q4 j hj)) rfl rfl d fin
theorem a_put {g : GP} {M : MC} {own : String} {cc : ByteArray} {nL : Nat} {rt : Option FieldType} {R : Room} {k n pc : Nat} {L : List (Option Value)} {st : List Value} {h : AH} {index ci j : Nat} {ty : FieldType} {nest : Bool} {a : Nat} {fs : List Value} {v : Value} (cx : CX g M own cc nL rt R) (f : FL own index ci j ty false nest) (d : decode cc pc = .ok (.putfield index, 3)) (ha : h a = some (eO ci fs)) (hn : narrow ty v = v) (hfit : fits ty v = true) (hlt : j < fs.length) (K : AW g M k n (pc + 3) L st (hset h a (eO ci (fs.set j v)))) (hg : (ci == 15) = false := by rfl) : AW g M k n pc L (v :: .ref a :: st) h := AW.hk fun hk => a_putB cx f d ha (hk.1 a _ ha hg) hn hfit hlt K
/-- a final field, in its class's constructor -/
theorem a_putF {g : GP} {M : MC} {own : String} {cc : ByteArray} {nL : Nat} {rt : Option FieldType} {R : Room} {k n pc : Nat} {L : List (Option Value)} {st : List Value} {h : AH} {index ci j : Nat} {ty : FieldType} {nest : Bool} {a : Nat} {fs : List Value} {v : Value} (cx : CX g M own cc nL rt R) (hin2 : (Mt M).name = "<init>") (f : FL own index ci j ty true nest) (d : decode cc pc = .ok (.putfield index, 3)) (ha : h a = some (eO ci fs)) (hB : gB g ≤ a) (hn : narrow ty v = v) (hfit : fits ty v = true) (hlt : j < fs.length) (K : AW g M k n (pc + 3) L st (hset h a (eO ci (fs.set j v)))) : AW g M k n pc L (v :: .ref a :: st) h := by
  intro H locs ls hH hk hS hl
  obtain ⟨C, T, N, ref, hc, hin, ⟨ty0, hty⟩, hnm, hj, hlink, hsame, hd, hfin, hown2⟩ := f
  obtain ⟨hnest, hdecl⟩ := hown2 rfl
  subst hnest
  have hap := va_apart (own := own) cx.hts hin ty0 hty hnm cx.hG.K hc
  obtain ⟨r, h1, cell, q1, q2, q3, q4⟩ := hH a _ ha
  have hr : r = (C, T, N) := Option.some.inj (h1.symm.trans hc)
  subst hr
  obtain ⟨hSl, hfc, kC, hkC, hkind⟩ := cx.hG.K.1 ci _ hc
  obtain ⟨cf, kf, fi, f, hi, hsl⟩ := hSl j hj
  have hlay := cx.hts _ (hin _ (u_in_lay hj))
  unfold u_lay at hlay
  rw [if_pos hfin] at hlay
  have hst := (u_facts hfc hkC (u_lays cx.hts hin hj) hi).1
  have hcf : (Mm M).cls = cf := by
    obtain ⟨_, _, c', _, _, _, -, -, hf', -, -, -, hown2, -⟩ := Cond.laysFinal_spec hlay
    have e1 : c' = cf := by have := hi.symm.trans hf'; simp at this; exact this.1.symm
    rw [hdecl] at hown2
    rw [← e1]; exact Option.some.inj (cx.hown.symm.trans hown2)
  have h6 := u_fits hfc hkC hkind (Or.inr hlay) hi hd hn hfit
  have hsm := FL.same (own := own) (index := index) (ci := ci) (ty := ty) cx.hts hsame
  refine W.putFinK cx.hx cx.hb cx.hown (cx.hts _ hlink) (hsm _ hi) hst hcf hin2 (by rw [q2]; exact h6) q1 q3 (by rw [hsl]; exact k2_hasslot (q4 j hj)) rfl rfl d fun H' e1 e2 e3 => ?_
  rw [hsl] at e1 ⊢
  exact K H' _ ls (hH.set ⟨_, hc, t_OB.to (V := updV (vp_V fs) j v) ⟨_, e1, q2, q3, t_set q4 hap hj v⟩ (fun i _ => vp_updV_set hlt v i)⟩ e3) (hk.set cx.hG.ss hB) (hS.put e2 e3 hB) hl
/-! arrays: the class is gT's: 0 int, 1 byte, 2 long, 3 double, 4 Object -/
theorem a_iald {g : GP} {M : MC} {own : String} {cc : ByteArray} {nL : Nat} {rt : Option FieldType} {R : Room} {k n pc : Nat} {L : List (Option Value)} {st : List Value} {h : AH} {a m j : Nat} {f : Nat → Int32} {i : Int32} (cx : CX g M own cc nL rt R) (d : decode cc pc = .ok (.iaload, 1)) (ha : h a = some (eI (g.2.1 0) m f)) (hi : i = nI j) (hj : j < m) (hm : m < 2 ^ 31) (K : AW g M k n (pc + 1) L (.int (f j) :: st) h) : AW g M k n pc L (.int i :: .ref a :: st) h := by
  intro H locs ls hH hk hS hl
  subst hi
  have K1 := (K H locs ls hH hk hS hl)
  refine va_iald cx.hx cx.hb cx.hG.K (hp1 hH ha) 0 0 rfl rfl (vp_in_nI hj hm) d ?_
  rw [nI_clamp (Nat.lt_trans hj hm)]
  exact K1
theorem a_bald {g : GP} {M : MC} {own : String} {cc : ByteArray} {nL : Nat} {rt : Option FieldType} {R : Room} {k n pc : Nat} {L : List (Option Value)} {st : List Value} {h : AH} {a m j : Nat} {f : Nat → Int32} {i : Int32} (cx : CX g M own cc nL rt R) (d : decode cc pc = .ok (.baload, 1)) (ha : h a = some (eI (g.2.1 1) m f)) (hi : i = nI j) (hj : j < m) (hm : m < 2 ^ 31) (K : AW g M k n (pc + 1) L (.int (f j) :: st) h) : AW g M k n pc L (.int i :: .ref a :: st) h := by
  intro H locs ls hH hk hS hl
  subst hi
  have K1 := (K H locs ls hH hk hS hl)
  refine va_bald cx.hx cx.hb cx.hG.K (hp1 hH ha) 0 1 rfl rfl (vp_in_nI hj hm) d ?_
  rw [nI_clamp (Nat.lt_trans hj hm)]
  exact K1
theorem a_lald {g : GP} {M : MC} {own : String} {cc : ByteArray} {nL : Nat} {rt : Option FieldType} {R : Room} {k n pc : Nat} {L : List (Option Value)} {st : List Value} {h : AH} {a m j : Nat} {f : Nat → Int64} {i : Int32} (cx : CX g M own cc nL rt R) (d : decode cc pc = .ok (.laload, 1)) (ha : h a = some (eL (g.2.1 2) m f)) (hi : i = nI j) (hj : j < m) (hm : m < 2 ^ 31) (K : AW g M k n (pc + 1) L (.long (f j) :: st) h) : AW g M k n pc L (.int i :: .ref a :: st) h := by
  intro H locs ls hH hk hS hl
  subst hi
  have K1 := (K H locs ls hH hk hS hl)
  refine va_lald cx.hx cx.hb cx.hG.K (hp1 hH ha) 0 2 rfl rfl (vp_in_nI hj hm) d ?_
  rw [nI_clamp (Nat.lt_trans hj hm)]
  exact K1
theorem a_dald {g : GP} {M : MC} {own : String} {cc : ByteArray} {nL : Nat} {rt : Option FieldType} {R : Room} {k n pc : Nat} {L : List (Option Value)} {st : List Value} {h : AH} {a m j : Nat} {f : Nat → UInt64} {i : Int32} (cx : CX g M own cc nL rt R) (d : decode cc pc = .ok (.daload, 1)) (ha : h a = some (eD (g.2.1 3) m f)) (hi : i = nI j) (hj : j < m) (hm : m < 2 ^ 31) (K : AW g M k n (pc + 1) L (.double (f j) :: st) h) : AW g M k n pc L (.int i :: .ref a :: st) h := by
  intro H locs ls hH hk hS hl
  subst hi
  have K1 := (K H locs ls hH hk hS hl)
  refine va_dald cx.hx cx.hb cx.hG.K (hp1 hH ha) 0 3 rfl rfl (vp_in_nI hj hm) d ?_
  rw [nI_clamp (Nat.lt_trans hj hm)]
  exact K1
theorem a_aald {g : GP} {M : MC} {own : String} {cc : ByteArray} {nL : Nat} {rt : Option FieldType} {R : Room} {k n pc : Nat} {L : List (Option Value)} {st : List Value} {h : AH} {a m j : Nat} {f : Nat → Option Nat} {i : Int32} (cx : CX g M own cc nL rt R) (d : decode cc pc = .ok (.aaload, 1)) (ha : h a = some (eQ (g.2.1 4) m f)) (hi : i = nI j) (hj : j < m) (hm : m < 2 ^ 31) (K : AW g M k n (pc + 1) L (va_rf (f j) :: st) h) : AW g M k n pc L (.int i :: .ref a :: st) h := by
  intro H locs ls hH hk hS hl
  subst hi
  have K1 := (K H locs ls hH hk hS hl)
  refine va_aldq cx.hx cx.hb cx.hG.K (hp1 hH ha) 0 4 rfl rfl (vp_in_nI hj hm) d ?_
  rw [nI_clamp (Nat.lt_trans hj hm)]
  exact K1
theorem a_alen0 {g : GP} {M : MC} {own : String} {cc : ByteArray} {nL : Nat} {rt : Option FieldType} {R : Room} {k n pc : Nat} {L : List (Option Value)} {st : List Value} {h : AH} {a m : Nat} {f : Nat → Int32} (cx : CX g M own cc nL rt R) (d : decode cc pc = .ok (.arraylength, 1)) (ha : h a = some (eI (g.2.1 0) m f)) (K : AW g M k n (pc + 1) L (.int (nI m) :: st) h) : AW g M k n pc L (.ref a :: st) h := fun H locs ls hH hk hS hl => va_alen cx.hx cx.hb cx.hG.K (hp1 hH ha) 0 0 rfl rfl rfl d (K H locs ls hH hk hS hl)
theorem a_alen1 {g : GP} {M : MC} {own : String} {cc : ByteArray} {nL : Nat} {rt : Option FieldType} {R : Room} {k n pc : Nat} {L : List (Option Value)} {st : List Value} {h : AH} {a m : Nat} {f : Nat → Int32} (cx : CX g M own cc nL rt R) (d : decode cc pc = .ok (.arraylength, 1)) (ha : h a = some (eI (g.2.1 1) m f)) (K : AW g M k n (pc + 1) L (.int (nI m) :: st) h) : AW g M k n pc L (.ref a :: st) h := fun H locs ls hH hk hS hl => va_alen cx.hx cx.hb cx.hG.K (hp1 hH ha) 0 1 rfl rfl rfl d (K H locs ls hH hk hS hl)
theorem a_alen4 {g : GP} {M : MC} {own : String} {cc : ByteArray} {nL : Nat} {rt : Option FieldType} {R : Room} {k n pc : Nat} {L : List (Option Value)} {st : List Value} {h : AH} {a m : Nat} {f : Nat → Option Nat} (cx : CX g M own cc nL rt R) (d : decode cc pc = .ok (.arraylength, 1)) (ha : h a = some (eQ (g.2.1 4) m f)) (K : AW g M k n (pc + 1) L (.int (nI m) :: st) h) : AW g M k n pc L (.ref a :: st) h := fun H locs ls hH hk hS hl => va_alen cx.hx cx.hb cx.hG.K (hp1 hH ha) 0 4 rfl rfl rfl d (K H locs ls hH hk hS hl)
theorem a_iast {g : GP} {M : MC} {own : String} {cc : ByteArray} {nL : Nat} {rt : Option FieldType} {R : Room} {k n pc : Nat} {L : List (Option Value)} {st : List Value} {h : AH} {a m j : Nat} {f : Nat → Int32} {i : Int32} {x : Int32} (cx : CX g M own cc nL rt R) (d : decode cc pc = .ok (.iastore, 1)) (ha : h a = some (eI (g.2.1 0) m f)) (hi : i = nI j) (hj : j < m) (hm : m < 2 ^ 31) (K : AW g M k n (pc + 1) L st (hset h a (eI (g.2.1 0) m (upd f j x)))) : AW g M k n pc L (.int x :: .int i :: .ref a :: st) h := by
  intro H locs ls hH hk hS hl
  subst hi
  have hB : gB g ≤ a := hk.1 a _ ha (by
    have hne := gT_ne cx.hG.K
    have h1 : (g.2.1 0 == g.2.1 1) = false := by simpa using hne
    have h2 : (m == 0) = false := by simp; omega
    simp only [gold, eI, h1, h2, Bool.or_self])
  have hin := vp_in_nI hj hm
  have hcl : (nI j).toNatClampNeg = j := nI_clamp (Nat.lt_trans hj hm)
  refine W.iast cx.hx cx.hb (hH a _ ha) ((cx.hG.K.2 0 _ rfl).1 m (fun j => .int (f j))) (fun q => by cases q) (by show ¬ (nI j < 0 ∨ (arrV _ _ _).slots.size ≤ _); rw [arrV_size]; exact hin) rfl rfl d fun H1 e z oq => ?_
  refine K H1 _ ls (hH.set ?_ oq) (hk.set cx.hG.ss hB) (hS.put z oq hB) hl
  show H1[a]? = some (vp_cell _ _)
  rw [e]
  rw [vp_cell_i, vp_cell_i, arrV_store, hcl]
  congr 2
  funext q
  by_cases hq : q = j
  · subst hq
    simp [updV, upd]
    try rfl
  · simp [updV, upd, hq]
theorem a_bast {g : GP} {M : MC} {own : String} {cc : ByteArray} {nL : Nat} {rt : Option FieldType} {R : Room} {k n pc : Nat} {L : List (Option Value)} {st : List Value} {h : AH} {a m j : Nat} {f : Nat → Int32} {i : Int32} {x y : Int32} (cx : CX g M own cc nL rt R) (d : decode cc pc = .ok (.bastore, 1)) (ha : h a = some (eI (g.2.1 1) m f)) (hB : gB g ≤ a) (hi : i = nI j) (hj : j < m) (hm : m < 2 ^ 31) (hy : y = vp_nar .byte x) (K : AW g M k n (pc + 1) L st (hset h a (eI (g.2.1 1) m (upd f j y)))) : AW g M k n pc L (.int x :: .int i :: .ref a :: st) h := by
  intro H locs ls hH hk hS hl
  subst hi
  subst hy
  have hin := vp_in_nI hj hm
  have hcl : (nI j).toNatClampNeg = j := nI_clamp (Nat.lt_trans hj hm)
  refine W.bast cx.hx cx.hb (hH a _ ha) ((cx.hG.K.2 1 _ rfl).1 m (fun j => .int (f j))) (fun q => by cases q) (by show ¬ (nI j < 0 ∨ (arrV _ _ _).slots.size ≤ _); rw [arrV_size]; exact hin) rfl rfl d fun H1 e z oq => ?_
  refine K H1 _ ls (hH.set ?_ oq) (hk.set cx.hG.ss hB) (hS.put z oq hB) hl
  show H1[a]? = some (vp_cell _ _)
  rw [e]
  rw [vp_cell_i, vp_cell_i, arrV_store, hcl]
  congr 2
  funext q
  by_cases hq : q = j
  · subst hq
    simp [updV, upd, vp_nar]
    try rfl
  · simp [updV, upd, vp_nar, hq]
theorem a_lastB {g : GP} {M : MC} {own : String} {cc : ByteArray} {nL : Nat} {rt : Option FieldType} {R : Room} {k n pc : Nat} {L : List (Option Value)} {st : List Value} {h : AH} {a m j : Nat} {f : Nat → Int64} {i : Int32} {x : Int64} (cx : CX g M own cc nL rt R) (d : decode cc pc = .ok (.lastore, 1)) (ha : h a = some (eL (g.2.1 2) m f)) (hB : gB g ≤ a) (hi : i = nI j) (hj : j < m) (hm : m < 2 ^ 31) (K : AW g M k n (pc + 1) L st (hset h a (eL (g.2.1 2) m (vp_updL f j x)))) : AW g M k n pc L (.long x :: .int i :: .ref a :: st) h := by
  intro H locs ls hH hk hS hl
  subst hi
  have hin := vp_in_nI hj hm
  have hcl : (nI j).toNatClampNeg = j := nI_clamp (Nat.lt_trans hj hm)
  refine W.last cx.hx cx.hb (hH a _ ha) ((cx.hG.K.2 2 _ rfl).1 m (fun j => .long (f j))) (fun q => by cases q) (by show ¬ (nI j < 0 ∨ (arrV _ _ _).slots.size ≤ _); rw [arrV_size]; exact hin) rfl rfl d fun H1 e z oq => ?_
  refine K H1 _ ls (hH.set ?_ oq) (hk.set cx.hG.ss hB) (hS.put z oq hB) hl
  show H1[a]? = some (vp_cell _ _)
  rw [e]
  rw [vp_cell_l, vp_cell_l, arrV_store, hcl]
  congr 2
  funext q
  by_cases hq : q = j
  · subst hq
    simp [updV, vp_updL]
    try rfl
  · simp [updV, vp_updL, hq]
theorem a_dastB {g : GP} {M : MC} {own : String} {cc : ByteArray} {nL : Nat} {rt : Option FieldType} {R : Room} {k n pc : Nat} {L : List (Option Value)} {st : List Value} {h : AH} {a m j : Nat} {f : Nat → UInt64} {i : Int32} {x : UInt64} (cx : CX g M own cc nL rt R) (d : decode cc pc = .ok (.dastore, 1)) (ha : h a = some (eD (g.2.1 3) m f)) (hB : gB g ≤ a) (hi : i = nI j) (hj : j < m) (hm : m < 2 ^ 31) (K : AW g M k n (pc + 1) L st (hset h a (eD (g.2.1 3) m (vf_upd f j x)))) : AW g M k n pc L (.double x :: .int i :: .ref a :: st) h := by
  intro H locs ls hH hk hS hl
  subst hi
  have hin := vp_in_nI hj hm
  have hcl : (nI j).toNatClampNeg = j := nI_clamp (Nat.lt_trans hj hm)
  refine W.dast cx.hx cx.hb (hH a _ ha) ((cx.hG.K.2 3 _ rfl).1 m (fun j => .double (f j))) (fun q => by cases q) (by show ¬ (nI j < 0 ∨ (arrV _ _ _).slots.size ≤ _); rw [arrV_size]; exact hin) rfl rfl d fun H1 e z oq => ?_
  refine K H1 _ ls (hH.set ?_ oq) (hk.set cx.hG.ss hB) (hS.put z oq hB) hl
  show H1[a]? = some (vp_cell _ _)
  rw [e]
  rw [vp_cell_d, vp_cell_d, arrV_store, hcl]
  congr 2
  funext q
  by_cases hq : q = j
  · subst hq
    simp [updV, vf_upd]
    try rfl
  · simp [updV, vf_upd, hq]
/-- an object laid into an Object[] -/
theorem a_aast {g : GP} {M : MC} {own : String} {cc : ByteArray} {nL : Nat} {rt : Option FieldType} {R : Room} {k n pc : Nat} {L : List (Option Value)} {st : List Value} {h : AH} {a m j v ci : Nat} {vs : List Value} {r : vw_C} {f : Nat → Option Nat} {i : Int32} (cx : CX g M own cc nL rt R) (d : decode cc pc = .ok (.aastore, 1)) (ha : h a = some (eQ (g.2.1 4) m f)) (hB : gB g ≤ a) (hv : h v = some (eO ci vs)) (hc : allC[ci]? = some r) (hca : Cond.castable r.1 "java/lang/Object" ∈ lw_tbl) (hi : i = nI j) (hj : j < m) (hm : m < 2 ^ 31) (K : AW g M k n (pc + 1) L st (hset h a (eQ (g.2.1 4) m (va_up f j (some v))))) : AW g M k n pc L (.ref v :: .int i :: .ref a :: st) h := by
  intro H locs ls hH hk hS hl
  subst hi
  have hcl : (nI j).toNatClampNeg = j := nI_clamp (Nat.lt_trans hj hm)
  obtain ⟨r', hr', cellV, g1, g2, g3, -⟩ := hH v _ hv
  have hcls := (cx.hG.K.1 ci r hc).2
  obtain ⟨kA, comp, k1, k2, k3, -⟩ := (cx.hG.K.2 4 _ rfl).2
  obtain ⟨kE, hkE, -⟩ := Vm.findClass_spec k3
  obtain ⟨c0, t1, f1, f2, f3⟩ := Cond.castable_spec (cx.hG.nest (A := Ma M) hca rfl)
  cases hcls.1.symm.trans f1
  cases k3.symm.trans f2
  obtain ⟨kC, hkC, -⟩ := hcls.2
  refine W.aast cx.hx cx.hb (hH a _ ha) (fun q h => by cases h) (fun h => by cases h) k1 k2 rfl hkE ⟨(fun q => vp_in_nI hj hm (Or.inl q)), by show _ < (arrV _ _ _).slots.size; rw [arrV_size, hcl]; exact hj⟩ g1 (fun q h => by rw [g3] at h; cases h) (by rw [g2]; exact hkC) (by rw [g2]; exact f3) rfl rfl d fun H1 e z oq => ?_
  refine K H1 _ ls (hH.set ?_ oq) (hk.set cx.hG.ss hB) (hS.put z oq hB) hl
  show H1[a]? = some (vp_cell _ _)
  rw [e]
  rw [vp_cell_q, vp_cell_q, arrV_store, hcl]
  congr 2
  funext q
  by_cases hq : q = j
  · subst hq
    simp [updV, va_up]
    try rfl
  · simp [updV, va_up, hq]
theorem a_aastN {g : GP} {M : MC} {own : String} {cc : ByteArray} {nL : Nat} {rt : Option FieldType} {R : Room} {k n pc : Nat} {L : List (Option Value)} {st : List Value} {h : AH} {a m j : Nat} {f : Nat → Option Nat} {i : Int32} (cx : CX g M own cc nL rt R) (d : decode cc pc = .ok (.aastore, 1)) (ha : h a = some (eQ (g.2.1 4) m f)) (hB : gB g ≤ a) (hi : i = nI j) (hj : j < m) (hm : m < 2 ^ 31) (K : AW g M k n (pc + 1) L st (hset h a (eQ (g.2.1 4) m (va_up f j none)))) : AW g M k n pc L (.null :: .int i :: .ref a :: st) h := by
  intro H locs ls hH hk hS hl
  subst hi
  have hcl : (nI j).toNatClampNeg = j := nI_clamp (Nat.lt_trans hj hm)
  refine va_WaastN (C := "java/lang/Object") cx.hx cx.hb (hH a _ ha) ((cx.hG.K.2 4 _ rfl).1 m (fun j => va_rf (f j))) (fun h => by cases h) (by show ¬ (nI j < 0 ∨ (arrV _ _ _).slots.size ≤ _); rw [arrV_size]; exact vp_in_nI hj hm) rfl rfl d fun H1 e z oq => ?_
  refine K H1 _ ls (hH.set ?_ oq) (hk.set cx.hG.ss hB) (hS.put z oq hB) hl
  show H1[a]? = some (vp_cell _ _)
  rw [e]
  rw [vp_cell_q, vp_cell_q, hcl]
  have hs := arrV_store (g.2.1 4) m j (fun j => va_rf (f j)) .null
  first
    | rw [hs]
      congr 2
      funext q
      by_cases hq : q = j
      · subst hq
        simp [updV, va_up, va_rf]
      · simp [updV, va_up, hq]
theorem a_acmp_eq {g : GP} {M : MC} {own : String} {cc : ByteArray} {nL : Nat} {rt : Option FieldType} {R : Room} {k n pc : Nat} {L : List (Option Value)} {st : List Value} {h : AH} {rx ry : Option Nat} {off : Int} {tgt : Nat} (cx : CX g M own cc nL rt R) (d : decode cc pc = .ok (.if_acmp .eq off, 3)) (ht : (pc : Int) + off = (tgt : Int)) (Kt : rx = ry → AW g M k n tgt L st h) (Kf : ¬ rx = ry → AW g M k n (pc + 3) L st h) : AW g M k n pc L (va_rf ry :: va_rf rx :: st) h := fun H locs ls hH hk hS hl => lv_acmp_eq cx.hx cx.hb d ht (fun q => Kt q H locs ls hH hk hS hl) (fun q => Kf q H locs ls hH hk hS hl)
theorem a_acmp_ne {g : GP} {M : MC} {own : String} {cc : ByteArray} {nL : Nat} {rt : Option FieldType} {R : Room} {k n pc : Nat} {L : List (Option Value)} {st : List Value} {h : AH} {rx ry : Option Nat} {off : Int} {tgt : Nat} (cx : CX g M own cc nL rt R) (d : decode cc pc = .ok (.if_acmp .ne off, 3)) (ht : (pc : Int) + off = (tgt : Int)) (Kt : ¬ rx = ry → AW g M k n tgt L st h) (Kf : rx = ry → AW g M k n (pc + 3) L st h) : AW g M k n pc L (va_rf ry :: va_rf rx :: st) h := fun H locs ls hH hk hS hl => lv_acmp_ne cx.hx cx.hb d ht (fun q => Kt q H locs ls hH hk hS hl) (fun q => Kf q H locs ls hH hk hS hl)
/-! new cells -/
def NL (own : String) (index ci N : Nat) (fs : List Value) : Prop := ∃ (C : String) (T : u_T) (ty : Nat → FieldType), allC[ci]? = some (C, T, N) ∧ (∀ w ∈ u_ws C T N, w ∈ lw_all) ∧ (∀ k, k < N → parseFieldDescriptor (T k).2.2.1 = some (ty k)) ∧ Cond.classLink own index C ∈ lw_all ∧ Cond.instantiable C N ∈ lw_all ∧ Cond.initialized C ∈ lw_all ∧ ∀ j, j < N → defaultValue (ty j) = vp_V fs j
theorem a_new {g : GP} {M : MC} {own : String} {cc : ByteArray} {nL : Nat} {rt : Option FieldType} {R : Room} {k n pc : Nat} {L : List (Option Value)} {st : List Value} {h : AH} {index ci N : Nat} {fs : List Value} (cx : CX g M own cc nL rt R) (f : NL own index ci N fs) (d : decode cc pc = .ok (.new index, 3)) (h1 : k + 1 ≤ R.cells) (h2 : n + N ≤ R.slots) (K : ∀ q : Nat, h q = none → gB g ≤ q → AW g M (k + 1) (n + N) (pc + 3) L (.ref q :: st) (hset h q (eO ci fs))) : AW g M k n pc L st h := by
  intro H locs ls hH hk hS hl
  obtain ⟨C, T, ty, hc, hin, hty, hcl, hinst, hini, hfs⟩ := f
  rw [← cx.hR] at h1 h2
  have hKn := cx.hG.K.1 ci _ hc
  have hB : gB g ≤ H.size := Nat.le_trans cx.hG.bz hS.1
  refine W.newcK cx.hx cx.hb cx.hown (cx.hts _ hcl) (cx.hts _ hinst) (cx.hts _ hini) rfl d h1 h2 hKn.2.1 rfl fun H1 kC hkC e1 z1 o1 => ?_
  exact K H.size hH.fresh hB H1 _ ls (hH.push ⟨_, hc, (u_born ty cx.hts hin hKn hkC e1 hty).to hfs⟩ o1) (hk.set cx.hG.ss hB) ⟨Nat.le_trans hS.1 (by omega), fun x h1 h2 => (o1 x (Nat.lt_of_lt_of_le h1 hS.1)).trans (hS.2.1 x h1 h2), hS.2.2⟩ hl
theorem a_newaI {g : GP} {M : MC} {own : String} {cc : ByteArray} {nL : Nat} {rt : Option FieldType} {R : Room} {k n pc : Nat} {L : List (Option Value)} {st : List Value} {h : AH} {i : Int32} {m : Nat} (cx : CX g M own cc nL rt R) (d : decode cc pc = .ok (.newarray .int, 2)) (hi : i = nI m) (hm : m < 2 ^ 16) (h1 : k + 1 ≤ R.cells) (h2 : n + m ≤ R.slots) (K : ∀ q : Nat, h q = none → gB g ≤ q → AW g M (k + 1) (n + m) (pc + 2) L (.ref q :: st) (hset h q (eI (g.2.1 0) m (fun _ => 0)))) : AW g M k n pc L (.int i :: st) h := by
  intro H locs ls hH hk hS hl
  subst hi
  rw [← cx.hR] at h1 h2
  have hB : gB g ≤ H.size := Nat.le_trans cx.hG.bz hS.1
  refine va_newaK cx.hx cx.hb (atype := .int) (cx.hts _ q192) rfl d rfl (nI_pos (by omega)) (nI_clamp (by omega)) (Nat.le_trans (Nat.mul_le_mul_left m (show componentBytes (newarray.typeOf .int) ≤ 8 by decide)) (by omega)) h1 h2 rfl fun H1 cA e1 z1 o1 hAr hNm => ?_
  have hcA : cA = g.2.1 0 := Option.some.inj (hNm.symm.trans (cx.hG.K.2 0 _ rfl).2)
  subst hcA
  exact K H.size hH.fresh hB H1 _ ls (hH.push (show H1[H.size]? = some (vp_cell _ _) from e1) o1) (hk.set cx.hG.ss hB) ⟨Nat.le_trans hS.1 (by omega), fun x h1 h2 => (o1 x (Nat.lt_of_lt_of_le h1 hS.1)).trans (hS.2.1 x h1 h2), hS.2.2⟩ hl
theorem a_newaB {g : GP} {M : MC} {own : String} {cc : ByteArray} {nL : Nat} {rt : Option FieldType} {R : Room} {k n pc : Nat} {L : List (Option Value)} {st : List Value} {h : AH} {i : Int32} {m : Nat} (cx : CX g M own cc nL rt R) (d : decode cc pc = .ok (.newarray .byte, 2)) (hi : i = nI m) (hm : m < 2 ^ 16) (h1 : k + 1 ≤ R.cells) (h2 : n + m ≤ R.slots) (K : ∀ q : Nat, h q = none → gB g ≤ q → AW g M (k + 1) (n + m) (pc + 2) L (.ref q :: st) (hset h q (eI (g.2.1 1) m (fun _ => 0)))) : AW g M k n pc L (.int i :: st) h := by
  intro H locs ls hH hk hS hl
  subst hi
  rw [← cx.hR] at h1 h2
  have hB : gB g ≤ H.size := Nat.le_trans cx.hG.bz hS.1
  refine va_newaK cx.hx cx.hb (atype := .byte) (cx.hts _ q242) rfl d rfl (nI_pos (by omega)) (nI_clamp (by omega)) (Nat.le_trans (Nat.mul_le_mul_left m (show componentBytes (newarray.typeOf .byte) ≤ 8 by decide)) (by omega)) h1 h2 rfl fun H1 cA e1 z1 o1 hAr hNm => ?_
  have hcA : cA = g.2.1 1 := Option.some.inj (hNm.symm.trans (cx.hG.K.2 1 _ rfl).2)
  subst hcA
  exact K H.size hH.fresh hB H1 _ ls (hH.push (show H1[H.size]? = some (vp_cell _ _) from e1) o1) (hk.set cx.hG.ss hB) ⟨Nat.le_trans hS.1 (by omega), fun x h1 h2 => (o1 x (Nat.lt_of_lt_of_le h1 hS.1)).trans (hS.2.1 x h1 h2), hS.2.2⟩ hl
theorem a_newaL {g : GP} {M : MC} {own : String} {cc : ByteArray} {nL : Nat} {rt : Option FieldType} {R : Room} {k n pc : Nat} {L : List (Option Value)} {st : List Value} {h : AH} {i : Int32} {m : Nat} (cx : CX g M own cc nL rt R) (d : decode cc pc = .ok (.newarray .long, 2)) (hi : i = nI m) (hm : m < 2 ^ 16) (h1 : k + 1 ≤ R.cells) (h2 : n + m ≤ R.slots) (K : ∀ q : Nat, h q = none → gB g ≤ q → AW g M (k + 1) (n + m) (pc + 2) L (.ref q :: st) (hset h q (eL (g.2.1 2) m (fun _ => 0)))) : AW g M k n pc L (.int i :: st) h := by
  intro H locs ls hH hk hS hl
  subst hi
  rw [← cx.hR] at h1 h2
  have hB : gB g ≤ H.size := Nat.le_trans cx.hG.bz hS.1
  refine va_newaK cx.hx cx.hb (atype := .long) (cx.hts _ q2420) rfl d rfl (nI_pos (by omega)) (nI_clamp (by omega)) (Nat.le_trans (Nat.mul_le_mul_left m (show componentBytes (newarray.typeOf .long) ≤ 8 by decide)) (by omega)) h1 h2 rfl fun H1 cA e1 z1 o1 hAr hNm => ?_
  have hcA : cA = g.2.1 2 := Option.some.inj (hNm.symm.trans (cx.hG.K.2 2 _ rfl).2)
  subst hcA
  exact K H.size hH.fresh hB H1 _ ls (hH.push (show H1[H.size]? = some (vp_cell _ _) from e1) o1) (hk.set cx.hG.ss hB) ⟨Nat.le_trans hS.1 (by omega), fun x h1 h2 => (o1 x (Nat.lt_of_lt_of_le h1 hS.1)).trans (hS.2.1 x h1 h2), hS.2.2⟩ hl
theorem a_newaD {g : GP} {M : MC} {own : String} {cc : ByteArray} {nL : Nat} {rt : Option FieldType} {R : Room} {k n pc : Nat} {L : List (Option Value)} {st : List Value} {h : AH} {i : Int32} {m : Nat} (cx : CX g M own cc nL rt R) (d : decode cc pc = .ok (.newarray .double, 2)) (hi : i = nI m) (hm : m < 2 ^ 16) (h1 : k + 1 ≤ R.cells) (h2 : n + m ≤ R.slots) (K : ∀ q : Nat, h q = none → gB g ≤ q → AW g M (k + 1) (n + m) (pc + 2) L (.ref q :: st) (hset h q (eD (g.2.1 3) m (fun _ => FP.dconst0)))) : AW g M k n pc L (.int i :: st) h := by
  intro H locs ls hH hk hS hl
  subst hi
  rw [← cx.hR] at h1 h2
  have hB : gB g ≤ H.size := Nat.le_trans cx.hG.bz hS.1
  refine va_newaK cx.hx cx.hb (atype := .double) (cx.hts _ q2421) rfl d rfl (nI_pos (by omega)) (nI_clamp (by omega)) (Nat.le_trans (Nat.mul_le_mul_left m (show componentBytes (newarray.typeOf .double) ≤ 8 by decide)) (by omega)) h1 h2 rfl fun H1 cA e1 z1 o1 hAr hNm => ?_
  have hcA : cA = g.2.1 3 := Option.some.inj (hNm.symm.trans (cx.hG.K.2 3 _ rfl).2)
  subst hcA
  exact K H.size hH.fresh hB H1 _ ls (hH.push (show H1[H.size]? = some (vp_cell _ _) from e1) o1) (hk.set cx.hG.ss hB) ⟨Nat.le_trans hS.1 (by omega), fun x h1 h2 => (o1 x (Nat.lt_of_lt_of_le h1 hS.1)).trans (hS.2.1 x h1 h2), hS.2.2⟩ hl
theorem a_newaQ {g : GP} {M : MC} {own : String} {cc : ByteArray} {nL : Nat} {rt : Option FieldType} {R : Room} {k n pc : Nat} {L : List (Option Value)} {st : List Value} {h : AH} {i : Int32} {m index : Nat} (cx : CX g M own cc nL rt R) (d : decode cc pc = .ok (.anewarray index, 3)) (hlk : Cond.classLink own index "java/lang/Object" ∈ lw_all) (hi : i = nI m) (hm : m < 2 ^ 16) (h1 : k + 1 ≤ R.cells) (h2 : n + m ≤ R.slots) (K : ∀ q : Nat, h q = none → gB g ≤ q → AW g M (k + 1) (n + m) (pc + 3) L (.ref q :: st) (hset h q (eQ (g.2.1 4) m (fun _ => none)))) : AW g M k n pc L (.int i :: st) h := by
  intro H locs ls hH hk hS hl
  subst hi
  rw [← cx.hR] at h1 h2
  have hcl : (nI m).toNatClampNeg = m := nI_clamp (by omega)
  have hB : gB g ≤ H.size := Nat.le_trans cx.hG.bz hS.1
  obtain ⟨-, -, -, -, -, -, -, hAO, -⟩ := cx.hG
  refine W.anew cx.hx cx.hb cx.hown (cx.hts _ hlk) (va_AO.use hAO) rfl d rfl (nI_pos (by omega)) (by rw [hcl]; omega) h1 (by rw [hcl]; exact h2) fun cA kA comp f4 f2 f3 f1 => ?_
  generalize hH1 : H.push ({ cls := cA, slots := Array.replicate (nI m).toNatClampNeg .null, vm := .none } : Cell) = H1
  have z1 : H1.size = H.size + 1 := by rw [← hH1, Array.size_push]
  have e1 : H1[H.size]? = some (arrV cA m (fun _ => .null)) := by rw [← hH1, Array.getElem?_push_size, ← arrV_new, hcl]
  have o1 : ∀ q : Nat, q < H.size → H1[q]? = H[q]? := fun q hq => by rw [← hH1, Array.getElem?_push, if_neg (Nat.ne_of_lt hq)]
  obtain ⟨kA2, comp2, w1, w2, w3, w4⟩ := (cx.hG.K.2 4 _ rfl).2
  have hcA : cA = g.2.1 4 := Option.some.inj (f4.symm.trans w4)
  subst hcA
  rw [hcl]
  exact K H.size hH.fresh hB H1 _ ls (hH.push (show H1[H.size]? = some (vp_cell _ _) from e1) o1) (hk.set cx.hG.ss hB) ⟨Nat.le_trans hS.1 (by omega), fun x h1 h2 => (o1 x (Nat.lt_of_lt_of_le h1 hS.1)).trans (hS.2.1 x h1 h2), hS.2.2⟩ hl
/-! statics -/
theorem a_gets {g : GP} {M : MC} {own : String} {cc : ByteArray} {nL : Nat} {rt : Option FieldType} {R : Room} {k n pc : Nat} {L : List (Option Value)} {st : List Value} {h : AH} {C nm ds : String} {v : Value} {index : Nat} (cx : CX g M own cc nL rt R) (hZ : va_Z C nm ds v (gA g) (Ms M) (Ms M).heap) (hlink : Cond.fieldLink own index C nm ds ∈ lw_all) (d : decode cc pc = .ok (.getstatic index, 3)) (K : AW g M k n (pc + 3) L (v :: st) h) : AW g M k n pc L st h := fun H locs ls hH hk hS hl => va_gets cx.hx cx.hb hZ hS cx.hown (cx.hts _ hlink) (fun x hx => hx) d (K H locs ls hH hk hS hl)
theorem a_getsq {g : GP} {M : MC} {own : String} {cc : ByteArray} {nL : Nat} {rt : Option FieldType} {R : Room} {k n pc : Nat} {L : List (Option Value)} {st : List Value} {h : AH} {C nm ds : String} {index : Nat} (cx : CX g M own cc nL rt R) (hZ : va_Zq C nm ds (gA g) (Ms M) (Ms M).heap) (hlink : Cond.fieldLink own index C nm ds ∈ lw_all) (d : decode cc pc = .ok (.getstatic index, 3)) (K : ∀ v : Value, isR v = true → AW g M k n (pc + 3) L (v :: st) h) : AW g M k n pc L st h := by
  rcases hZ with hZ | ⟨t, hZ⟩
  · exact a_gets cx hZ hlink d (K _ rfl)
  · exact a_gets cx hZ hlink d (K _ rfl)
/-! constants -/
theorem a_ldcS {g : GP} {M : MC} {own : String} {cc : ByteArray} {nL : Nat} {rt : Option FieldType} {R : Room} {k n pc : Nat} {L : List (Option Value)} {st : List Value} {h : AH} {tx : String} {index q : Nat} (cx : CX g M own cc nL rt R) (hZ : vk_R own index tx q (Ms M)) (d : decode cc pc = .ok (.ldc index, 2)) (K : AW g M k n (pc + 2) L (.ref q :: st) h) : AW g M k n pc L st h := fun H locs ls hH hk hS hl => va_ldcS cx.hx cx.hb cx.hown hZ d (K H locs ls hH hk hS hl)
theorem a_ldc {g : GP} {M : MC} {own : String} {cc : ByteArray} {nL : Nat} {rt : Option FieldType} {R : Room} {k n pc : Nat} {L : List (Option Value)} {st : List Value} {h : AH} {index : Nat} {v : Int32} (cx : CX g M own cc nL rt R) (hc : Cond.constant own index v ∈ lw_all) (d : decode cc pc = .ok (.ldc index, 2)) (K : AW g M k n (pc + 2) L (.int v :: st) h) : AW g M k n pc L st h := fun H locs ls hH hk hS hl => lv_ldc cx.hx cx.hb cx.hown (cx.hts _ hc) d (K H locs ls hH hk hS hl)
theorem a_ldc2 {g : GP} {M : MC} {own : String} {cc : ByteArray} {nL : Nat} {rt : Option FieldType} {R : Room} {k n pc : Nat} {L : List (Option Value)} {st : List Value} {h : AH} {index : Nat} {v : Int64} (cx : CX g M own cc nL rt R) (hc : Cond.constantLong own index v ∈ lw_all) (d : decode cc pc = .ok (.ldc2_w index, 3)) (K : AW g M k n (pc + 3) L (.long v :: st) h) : AW g M k n pc L st h := fun H locs ls hH hk hS hl => lv_ldc2 cx.hx cx.hb cx.hown (cx.hts _ hc) d (K H locs ls hH hk hS hl)
/-! casts -/
theorem HP.recv {g : GP} {U : State} {h : AH} {H : Heap} (hK : va_K g.1 allC (gT g) U) (hH : HP g.1 allC h H) {q ci : Nat} {fs : List Value} (hq : h q = some (eO ci fs)) {r : vw_C} (hc : allC[ci]? = some r) : ∃ cell : Cell, H[q]? = some cell ∧ cell.vm.isStatics = false ∧ U.vm.findClass r.1 = some cell.cls := by
  obtain ⟨ce, e1, e2, e3⟩ := HP.obj hK hH hq hc
  exact ⟨ce, e1, by rw [e2]; rfl, e3⟩
/-- checkcast to the object's own class -/
theorem a_castS {g : GP} {M : MC} {own : String} {cc : ByteArray} {nL : Nat} {rt : Option FieldType} {R : Room} {k n pc : Nat} {L : List (Option Value)} {st : List Value} {h : AH} {index q ci : Nat} {fs : List Value} {r : vw_C} (cx : CX g M own cc nL rt R) (hlink : Cond.classLink own index r.1 ∈ lw_all) (d : decode cc pc = .ok (.checkcast index, 3)) (hq : h q = some (eO ci fs)) (hc : allC[ci]? = some r) (K : AW g M k n (pc + 3) L (.ref q :: st) h) : AW g M k n pc L (.ref q :: st) h := fun H locs ls hH hk hS hl => va_castS cx.hx cx.hb cx.hown (cx.hts _ hlink) (cx.hG.K.1 ci r hc).2 (HP.recv cx.hG.K hH hq hc) d (K H locs ls hH hk hS hl)
theorem a_instS {g : GP} {M : MC} {own : String} {cc : ByteArray} {nL : Nat} {rt : Option FieldType} {R : Room} {k n pc : Nat} {L : List (Option Value)} {st : List Value} {h : AH} {index q ci : Nat} {fs : List Value} {r : vw_C} (cx : CX g M own cc nL rt R) (hlink : Cond.classLink own index r.1 ∈ lw_all) (d : decode cc pc = .ok (.instanceof index, 3)) (hq : h q = some (eO ci fs)) (hc : allC[ci]? = some r) (K : AW g M k n (pc + 3) L (.int 1 :: st) h) : AW g M k n pc L (.ref q :: st) h := fun H locs ls hH hk hS hl => va_instS cx.hx cx.hb cx.hown (cx.hts _ hlink) (cx.hG.K.1 ci r hc).2 (HP.recv cx.hG.K hH hq hc) d (K H locs ls hH hk hS hl)
theorem a_castN {g : GP} {M : MC} {own : String} {cc : ByteArray} {nL : Nat} {rt : Option FieldType} {R : Room} {k n pc : Nat} {L : List (Option Value)} {st : List Value} {h : AH} {index : Nat} (cx : CX g M own cc nL rt R) (d : decode cc pc = .ok (.checkcast index, 3)) (K : AW g M k n (pc + 3) L (.null :: st) h) : AW g M k n pc L (.null :: st) h := fun H locs ls hH hk hS hl => lv_castN cx.hx cx.hb d (K H locs ls hH hk hS hl)
