/-! casts to an interface -/
theorem a_castI {g : GP} {M : MC} {own : String} {cc : ByteArray} {nL : Nat} {rt : Option FieldType} {R : Room} {k n pc : Nat} {L : List (Option Value)} {st : List Value} {h : AH} {index q ci : Nat} {fs : List Value} {nm : String} (r : vw_C) (cx : CX g M own cc nL rt R) (hlink : Cond.classLink own index nm ∈ lw_all) (hca : Cond.castable r.1 nm ∈ lw_tbl) (d : decode cc pc = .ok (.checkcast index, 3)) (hq : h q = some (eO ci fs)) (hc : allC[ci]? = some r) (K : AW g M k n (pc + 3) L (.ref q :: st) h) : AW g M k n pc L (.ref q :: st) h := by
  intro H locs ls hH hk hS hl T hT X
  obtain ⟨cell, h1, h2, h3⟩ := HP.obj cx.hG.K hH hq hc
  obtain ⟨c0, t1, f1, f2, f3⟩ := Cond.castable_spec (cx.hG.nest (A := Ma M) hca rfl)
  cases h3.symm.trans f1
  obtain ⟨vm', X', stp⟩ := X.checkcastYes cx.hx cx.hown (cx.hts _ hlink) (by rw [hT]; exact h1) (by rw [h2]; rfl) f2 f3 (g := F0 (Mm M) pc ls (.ref q :: st)) rfl rfl (by rw [cx.hb]; exact d)
  obtain ⟨t, a1, b1⟩ := K H locs ls hH hk hS hl (T.setVm vm') hT X'
  exact ⟨t, stp t a1, b1⟩
