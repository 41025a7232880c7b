/-! STRINGS, facts 2 -/
set_option maxRecDepth 100000
theorem hset_same {h : AH} {a : Nat} {e : va_E} (ha : h a = some e) : hset h a e = h := by
  funext q
  by_cases hq : q = a
  · rw [hq, hset_s, ha]
  · rw [hset_n hq]
theorem sb_inj {x y : Nat} (hx : x < 128) (hy : y < 128) (e : sb_b x = sb_b y) : x = y := by
  have h1 := sb_255 x hx
  have h2 := sb_255 y hy
  rw [e, h2] at h1
  exact (nI_inj (by omega) (by omega) h1).symm
theorem getD_ext {s t : List Nat} (hl : s.length = t.length) (h : ∀ i, i < s.length → s.getD i 0 = t.getD i 0) : s = t := by
  refine List.ext_getElem hl (fun i h1 h2 => ?_)
  have := h i h1
  rw [List.getD_eq_getElem?_getD, List.getD_eq_getElem?_getD, List.getElem?_eq_getElem h1, List.getElem?_eq_getElem h2] at this
  exact this
theorem StrAt.eq {g : GP} {h : AH} {a : Nat} {s t : List Nat} (hS : StrAt g h a s) (hT : StrAt g h a t) (as : asc s) (at_ : asc t) : s = t := by
  obtain ⟨b, hs, hz, ha, hb, hh⟩ := hS
  obtain ⟨b2, hs2, hz2, ha2, hb2, hh2⟩ := hT
  rw [ha] at ha2
  have e1 : b = b2 := by
    have := Option.some.inj ha2
    simp only [eO, Sum.inr.injEq, Prod.mk.injEq, List.cons.injEq, Value.ref.injEq] at this
    exact this.2.1
  subst e1
  rw [hb] at hb2
  have h3 := Option.some.inj hb2
  simp only [eI, Sum.inl.injEq, Prod.mk.injEq] at h3
  refine getD_ext h3.2.1 (fun i hi => sb_inj as.at at_.at ?_)
  exact congrFun h3.2.2 i
