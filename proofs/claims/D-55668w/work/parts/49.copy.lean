/-! arraycopy, getClass, class constants -/
set_option maxRecDepth 100000
section COPY
variable {g : GP} {M : MC} {own : String} {cc : ByteArray} {nL : Nat} {rt : Option FieldType} {R : Room} {k n pc index : Nat} {L : List (Option Value)} {st : List Value} {h : AH}
/-- between arrays of ints or of bytes -/
theorem a_copyI (cx : CX g M own cc nL rt R) {c : ClassId} {ty : FieldType} (t : Nat) (htt : (gT g)[t]? = some (c, ty)) (hpr : refKind ty = false) (q1 : Cond.methodLink own index arraycopyName ∈ lw_all) (q2 : Cond.native arraycopyName ∈ lw_all) (q3 : Cond.static arraycopyName ∈ lw_all) (q4 : Cond.initialized "java/lang/System" ∈ lw_all)
    {a0 a n0 n1 sp dp m : Nat} {f f1 : Nat → Int32} (ha0 : h a0 = some (eI c n0 f)) (ha : h a = some (eI c n1 f1)) (hB : gB g ≤ a) {isp idp im : Int32} (e1 : isp = nI sp) (e2 : idp = nI dp) (e3 : im = nI m) (h4 : sp + m ≤ n0) (h5 : dp + m ≤ n1) (hn0 : n0 < 2 ^ 31) (hn1 : n1 < 2 ^ 31) (hfit : ∀ i, i < m → fits ty (.int (f (sp + i))) = true)
    (d : decode cc pc = .ok (.invokestatic index, 3)) (hf : 1 ≤ R.frames) (hloc : (st.map fun v => v.category).sum + (nativeFrameWords "java/lang/System" "arraycopy" 5 + 11) ≤ R.locals) (K : AW g M k n (pc + 3) L st (hset h a (eI c n1 (va_cpy f f1 sp dp m)))) (hLn : L.length = nL := by rfl) : AW g M k n pc L (.int im :: .int idp :: .ref a :: .int isp :: .ref a0 :: st) h := by
  rw [← cx.hR] at hf hloc
  intro H locs ls hH hk hS hl T hT X
  subst e1; subst e2; subst e3
  have c1 : (nI sp).toNatClampNeg = sp := nI_clamp (by omega)
  have c2 : (nI dp).toNatClampNeg = dp := nI_clamp (by omega)
  have c3 : (nI m).toNatClampNeg = m := nI_clamp (by omega)
  have hc0 : H[a0]? = some (vp_cell c (n0, .inl f)) := hH a0 _ ha0
  have hc1 : H[a]? = some (vp_cell c (n1, .inl f1)) := hH a _ ha
  obtain ⟨-, k0, hk0, cm0, hkk0⟩ := (cx.hG.K.2 t _ htt).1 n0 (fun j => .int (f j))
  obtain ⟨-, k1, hk1, cm1, hkk1⟩ := (cx.hG.K.2 t _ htt).1 n1 (fun j => .int (f1 j))
  obtain ⟨vm', X', step⟩ := X.arraycopy cx.hx cx.hown (cx.hts _ q1) (cx.hts _ q2) (cx.hts _ q3) (cx.hts _ q4) (src := a0) (dst := a) (cs := vp_cell c (n0, .inl f)) (cd := vp_cell c (n1, .inl f1)) (srcPos := nI sp) (destPos := nI dp) (n := nI m) (by rw [hT]; exact hc0) (by rw [hT]; exact hc1)
    (fun _ h => by cases h) (fun _ h => by cases h) (fun h => by cases h) (fun h => by cases h) hk0 hk1 hkk0 hkk1 (by simp [hpr]) (nI_pos (by omega)) (nI_pos (by omega)) (nI_pos (by omega))
    (by rw [nI_toInt (show sp < 2 ^ 31 by omega), nI_toInt (show m < 2 ^ 31 by omega)]; show ¬ _ > ((arrV c n0 (fun j => .int (f j))).slots.size : Int); rw [arrV_size]; omega)
    (by rw [nI_toInt (show dp < 2 ^ 31 by omega), nI_toInt (show m < 2 ^ 31 by omega)]; show ¬ _ > ((arrV c n1 (fun j => .int (f1 j))).slots.size : Int); rw [arrV_size]; omega)
    (fun vm₁ _ i hi => by
      rw [c3] at hi
      have e : (vp_cell c (n0, .inl f)).slots.getD ((nI sp).toNatClampNeg + i) .null = .int (f (sp + i)) := by
        rw [c1]
        show (arrV c n0 (fun j => .int (f j))).slots.getD _ _ = _
        rw [Array.getD_eq_getD_getElem?, arrV_read _ _ (by omega)]
        rfl
      refine ⟨?_, ?_⟩
      · rw [e]
        exact hfit i hi
      · rw [e]
        exact trivial)
    (g := F0 (Mm M) pc ls (.int (nI m) :: .int (nI dp) :: .ref a :: .int (nI sp) :: .ref a0 :: st)) rfl (hl.1.trans (hLn.trans cx.hml.symm)) (rest := st) rfl (by rw [cx.hb]; exact d) hf (by show 2 * 0 + _ + _ ≤ _; omega)
  have e1 : copied (vp_cell c (n0, .inl f)) (vp_cell c (n1, .inl f1)) (nI sp) (nI dp) (nI m) = vp_cell c (n1, .inl (va_cpy f f1 sp dp m)) := by
    have e0 : copied (vp_cell c (n0, .inl f)) (vp_cell c (n1, .inl f1)) (nI sp) (nI dp) (nI m) = (arrV c n1 (fun j => .int (f1 j))).storeRun (nI dp).toNatClampNeg ((arrV c n0 (fun j => .int (f j))).stretch (nI sp).toNatClampNeg (nI m).toNatClampNeg) := rfl
    rw [e0, c1, c2, c3]
    exact va_copied (fun z => .int z) c c f f1 h4
  rw [e1] at X' step
  have hla : a < H.size := (Array.getElem?_eq_some_iff.mp hc1).1
  have hheap : ((T.setVm vm').setCell a (vp_cell c (n1, .inl (va_cpy f f1 sp dp m)))).heap = H.setIfInBounds a (vp_cell c (n1, .inl (va_cpy f f1 sp dp m))) := by rw [← hT]; rfl
  have oq : ∀ q : Nat, q ≠ a → (H.setIfInBounds a (vp_cell c (n1, .inl (va_cpy f f1 sp dp m))))[q]? = H[q]? := fun q hq => by simp [Array.getElem?_setIfInBounds, Ne.symm hq]
  obtain ⟨t9, a1, b1⟩ := K (H.setIfInBounds a (vp_cell c (n1, .inl (va_cpy f f1 sp dp m)))) _ ls (hH.set (show (H.setIfInBounds a _)[a]? = some _ by simp [Array.getElem?_setIfInBounds, hla]) oq) (hk.set cx.hG.ss hB) ⟨by simp; exact hS.1, fun q g1 g2 => by
      rw [oq q (fun e => g2 (by rw [e]; exact hB))]
      exact hS.2.1 q g1 g2, fun q hq => by
      rcases List.mem_append.mp hq with h | h
      · exact hS.2.2 q h
      · obtain ⟨z, -, hz⟩ := List.mem_map.mp h
        rw [← hz]
        exact hB⟩ hl _ hheap X'
  exact ⟨t9, step t9 a1, b1⟩
/-- between Object arrays, of known objects -/
theorem a_copyQ (cx : CX g M own cc nL rt R) (q1 : Cond.methodLink own index arraycopyName ∈ lw_all) (q2 : Cond.native arraycopyName ∈ lw_all) (q3 : Cond.static arraycopyName ∈ lw_all) (q4 : Cond.initialized "java/lang/System" ∈ lw_all)
    {a0 a n0 n1 sp dp m : Nat} {f f1 : Nat → Option Nat} (ha0 : h a0 = some (eQ (g.2.1 4) n0 f)) (ha : h a = some (eQ (g.2.1 4) n1 f1)) (hB : gB g ≤ a) {isp idp im : Int32} (e1 : isp = nI sp) (e2 : idp = nI dp) (e3 : im = nI m) (h4 : sp + m ≤ n0) (h5 : dp + m ≤ n1) (hn0 : n0 < 2 ^ 31) (hn1 : n1 < 2 ^ 31) (hel : ∀ i, i < m → ∀ y : Nat, f (sp + i) = some y → ∃ (ci : Nat) (fs : List Value) (r : vw_C), h y = some (eO ci fs) ∧ allC[ci]? = some r ∧ Cond.castable r.1 "java/lang/Object" ∈ lw_tbl)
    (d : decode cc pc = .ok (.invokestatic index, 3)) (hf : 1 ≤ R.frames) (hloc : (st.map fun v => v.category).sum + (nativeFrameWords "java/lang/System" "arraycopy" 5 + 11) ≤ R.locals) (K : AW g M k n (pc + 3) L st (hset h a (eQ (g.2.1 4) n1 (va_cpy f f1 sp dp m)))) (hLn : L.length = nL := by rfl) : AW g M k n pc L (.int im :: .int idp :: .ref a :: .int isp :: .ref a0 :: st) h := by
  rw [← cx.hR] at hf hloc
  intro H locs ls hH hk hS hl T hT X
  subst e1; subst e2; subst e3
  have c1 : (nI sp).toNatClampNeg = sp := nI_clamp (by omega)
  have c2 : (nI dp).toNatClampNeg = dp := nI_clamp (by omega)
  have c3 : (nI m).toNatClampNeg = m := nI_clamp (by omega)
  have hc0 : H[a0]? = some (vp_cell (g.2.1 4) (n0, .inr (.inr (.inr (.inr f))))) := hH a0 _ ha0
  have hc1 : H[a]? = some (vp_cell (g.2.1 4) (n1, .inr (.inr (.inr (.inr f1))))) := hH a _ ha
  obtain ⟨-, k0, hk0, cm0, hkk0⟩ := (cx.hG.K.2 4 _ rfl).1 n0 (fun j => va_rf (f j))
  obtain ⟨-, k1, hk1, cm1, hkk1⟩ := (cx.hG.K.2 4 _ rfl).1 n1 (fun j => va_rf (f1 j))
  obtain ⟨vm', X', step⟩ := X.arraycopy cx.hx cx.hown (cx.hts _ q1) (cx.hts _ q2) (cx.hts _ q3) (cx.hts _ q4) (src := a0) (dst := a) (cs := vp_cell (g.2.1 4) (n0, .inr (.inr (.inr (.inr f))))) (cd := vp_cell (g.2.1 4) (n1, .inr (.inr (.inr (.inr f1))))) (srcPos := nI sp) (destPos := nI dp) (n := nI m) (by rw [hT]; exact hc0) (by rw [hT]; exact hc1)
    (fun _ h => by cases h) (fun _ h => by cases h) (fun h => by cases h) (fun h => by cases h) hk0 hk1 hkk0 hkk1 rfl (nI_pos (by omega)) (nI_pos (by omega)) (nI_pos (by omega))
    (by rw [nI_toInt (show sp < 2 ^ 31 by omega), nI_toInt (show m < 2 ^ 31 by omega)]; show ¬ _ > ((arrV (g.2.1 4) n0 (fun j => va_rf (f j))).slots.size : Int); rw [arrV_size]; omega)
    (by rw [nI_toInt (show dp < 2 ^ 31 by omega), nI_toInt (show m < 2 ^ 31 by omega)]; show ¬ _ > ((arrV (g.2.1 4) n1 (fun j => va_rf (f1 j))).slots.size : Int); rw [arrV_size]; omega)
    (fun vm₁ hal i hi => by
      rw [c3] at hi
      have e : (vp_cell (g.2.1 4) (n0, .inr (.inr (.inr (.inr f))))).slots.getD ((nI sp).toNatClampNeg + i) .null = va_rf (f (sp + i)) := by
        rw [c1]
        show (arrV (g.2.1 4) n0 (fun j => va_rf (f j))).slots.getD _ _ = _
        rw [Array.getD_eq_getD_getElem?, arrV_read _ _ (by omega)]
        rfl
      rw [e]
      cases hy : f (sp + i) with
      | none => exact ⟨rfl, trivial⟩
      | some y =>
        obtain ⟨ci, fs, r, g1, g2, g3⟩ := hel i hi y hy
        obtain ⟨cellV, r1, r2, r3⟩ := HP.obj cx.hG.K hH g1 g2
        obtain ⟨c9, t9, f1', f2', f3'⟩ := Cond.castable_spec (cx.hG.nest (A := Ma M) g3 rfl)
        obtain ⟨kA, comp, s1, s2, s3, -⟩ := (cx.hG.K.2 4 _ rfl).2
        cases hk1.symm.trans s1
        cases hkk1.symm.trans s2
        obtain ⟨kC, hkC, -⟩ := Vm.findClass_spec r3
        obtain ⟨kE, hkE, -⟩ := Vm.findClass_spec s3
        obtain ⟨kC', hkC', -⟩ := hal.2.2 _ _ hkC
        obtain ⟨kE', hkE', -⟩ := hal.2.2 _ _ hkE
        refine ⟨rfl, cellV, (show T.heap[y]? = some cellV by rw [hT]; exact r1), (fun q h => by rw [h] at r2; cases r2), ⟨kC', hkC'⟩, ?_, ?_⟩
        · exact ⟨kE', hkE'⟩
        · show vm₁.assignable _ _ = true
          rw [hal.assignable]
          cases r3.symm.trans f1'
          cases s3.symm.trans f2'
          exact f3')
    (g := F0 (Mm M) pc ls (.int (nI m) :: .int (nI dp) :: .ref a :: .int (nI sp) :: .ref a0 :: st)) rfl (hl.1.trans (hLn.trans cx.hml.symm)) (rest := st) rfl (by rw [cx.hb]; exact d) hf (by show 2 * 0 + _ + _ ≤ _; omega)
  have e1 : copied (vp_cell (g.2.1 4) (n0, .inr (.inr (.inr (.inr f))))) (vp_cell (g.2.1 4) (n1, .inr (.inr (.inr (.inr f1))))) (nI sp) (nI dp) (nI m) = vp_cell (g.2.1 4) (n1, .inr (.inr (.inr (.inr (va_cpy f f1 sp dp m))))) := by
    have e0 : copied (vp_cell (g.2.1 4) (n0, .inr (.inr (.inr (.inr f))))) (vp_cell (g.2.1 4) (n1, .inr (.inr (.inr (.inr f1))))) (nI sp) (nI dp) (nI m) = (arrV (g.2.1 4) n1 (fun j => va_rf (f1 j))).storeRun (nI dp).toNatClampNeg ((arrV (g.2.1 4) n0 (fun j => va_rf (f j))).stretch (nI sp).toNatClampNeg (nI m).toNatClampNeg) := rfl
    rw [e0, c1, c2, c3]
    exact va_copied (fun z => va_rf z) (g.2.1 4) (g.2.1 4) f f1 h4
  rw [e1] at X' step
  have hla : a < H.size := (Array.getElem?_eq_some_iff.mp hc1).1
  have hheap : ((T.setVm vm').setCell a (vp_cell (g.2.1 4) (n1, .inr (.inr (.inr (.inr (va_cpy f f1 sp dp m))))))).heap = H.setIfInBounds a (vp_cell (g.2.1 4) (n1, .inr (.inr (.inr (.inr (va_cpy f f1 sp dp m)))))) := by rw [← hT]; rfl
  have oq : ∀ q : Nat, q ≠ a → (H.setIfInBounds a (vp_cell (g.2.1 4) (n1, .inr (.inr (.inr (.inr (va_cpy f f1 sp dp m)))))))[q]? = H[q]? := fun q hq => by simp [Array.getElem?_setIfInBounds, Ne.symm hq]
  obtain ⟨t9, a1, b1⟩ := K (H.setIfInBounds a (vp_cell (g.2.1 4) (n1, .inr (.inr (.inr (.inr (va_cpy f f1 sp dp m))))))) _ ls (hH.set (show (H.setIfInBounds a _)[a]? = some _ by simp [Array.getElem?_setIfInBounds, hla]) oq) (hk.set cx.hG.ss hB) ⟨by simp; exact hS.1, fun q g1 g2 => by
      rw [oq q (fun e => g2 (by rw [e]; exact hB))]
      exact hS.2.1 q g1 g2, fun q hq => by
      rcases List.mem_append.mp hq with h | h
      · exact hS.2.2 q h
      · obtain ⟨z, -, hz⟩ := List.mem_map.mp h
        rw [← hz]
        exact hB⟩ hl _ hheap X'
  exact ⟨t9, step t9 a1, b1⟩
/-- getClass of an Object array, and its class object as a constant -/
theorem a_getC (cx : CX g M own cc nL rt R) (q1 : Cond.methodLink own index ⟨"java/lang/Object", "getClass", "()Ljava/lang/Class;"⟩ ∈ lw_all) (q2 : Cond.selects "[Ljava/lang/Object;" ⟨"java/lang/Object", "getClass", "()Ljava/lang/Class;"⟩ ⟨"java/lang/Object", "getClass", "()Ljava/lang/Class;"⟩ ∈ lw_all) (q3 : Cond.instanceMethod ⟨"java/lang/Object", "getClass", "()Ljava/lang/Class;"⟩ ∈ lw_all) (q4 : Cond.native ⟨"java/lang/Object", "getClass", "()Ljava/lang/Class;"⟩ ∈ lw_all)
    {a m : Nat} {f : Nat → Option Nat} (ha : h a = some (eQ (g.2.1 4) m f)) (d : decode cc pc = .ok (.invokevirtual index, 3)) (hf : 1 ≤ R.frames) (hloc : (st.map fun v => v.category).sum + 14 ≤ R.locals) (K : AW g M k n (pc + 3) L (.ref (gs g 3) :: st) h) (hLn : L.length = nL := by rfl) : AW g M k n pc L (.ref a :: st) h := by
  rw [← cx.hR] at hf hloc
  intro H locs ls hH hk hS hl
  have hMi : va_Mi "[Ljava/lang/Object;" (gs g 3) (Ms M) := by
    obtain ⟨h1, h2, h3, h4, h5, h6, h7, h8, h9, h10, h11, h12, hB, hs⟩ := cx.hG
    exact h10
  have hDc : va_Dc (Ms M) := by
    obtain ⟨h1, h2, h3, h4, h5, h6, h7, h8, h9, h10, h11, h12, hB, hs⟩ := cx.hG
    exact h11
  exact va_getC cx.hx cx.hb (cx.hml.trans (hl.1.trans hLn).symm) cx.hown (cx.hts _ q1) hDc.use (cx.hts _ q2) (cx.hts _ q3) (cx.hts _ q4) hMi ⟨_, hH a _ ha, rfl, va_nmO (cx.hG.K.2 4 _ rfl).2 rfl⟩ hf hloc d (K H locs ls hH hk hS hl)
theorem a_ldcM (cx : CX g M own cc nL rt R) (q1 : Cond.classLink own index "[Ljava/lang/Object;" ∈ lw_all) (d : decode cc pc = .ok (.ldc index, 2)) (K : AW g M k n (pc + 2) L (.ref (gs g 3) :: st) h) : AW g M k n pc L st h := by
  intro H locs ls hH hk hS hl
  have hMi : va_Mi "[Ljava/lang/Object;" (gs g 3) (Ms M) := by
    obtain ⟨h1, h2, h3, h4, h5, h6, h7, h8, h9, h10, h11, h12, hB, hs⟩ := cx.hG
    exact h10
  exact va_ldcM cx.hx cx.hb cx.hown (cx.hts _ q1) hMi d (K H locs ls hH hk hS hl)
theorem a_mmax (cx : CX g M own cc nL rt R) (q1 : Cond.methodLink own index Lib.Math.max.name ∈ lw_all) (q2 : Cond.static Lib.Math.max.name ∈ lw_all) (q3 : Cond.initialized "java/lang/Math" ∈ lw_all) (q4 : Cond.code Lib.Math.max.name Lib.Math.max.code 2 (some .int) ∈ lw_all) {x y : Nat} (hx : x < 2 ^ 30) (hy : y < 2 ^ 30) (d : decode cc pc = .ok (.invokestatic index, 3)) (hf : 1 ≤ R.frames) (hloc : (st.map fun v => v.category).sum + 13 ≤ R.locals) (h1 : k ≤ R.cells) (h2 : n ≤ R.slots)
    (K : AW g M k n (pc + 3) L (.int (nI (max x y)) :: st) h) (hLn : L.length = nL := by rfl) : AW g M k n pc L (.int (nI y) :: .int (nI x) :: st) h := by
  rw [← cx.hR] at hf hloc h1 h2
  intro H locs ls hH hk hS hl
  have e : (if nI x < nI y then nI y else nI x) = nI (max x y) := by
    split
    · rename_i q
      have := lt_nI q (by omega) (by omega)
      congr 1; omega
    · rename_i q
      have := nlt_nI q (by omega) (by omega)
      congr 1; omega
  refine va_mmax cx.hx cx.hb (cx.hml.trans (hl.1.trans hLn).symm) cx.hown (cx.hts _ q1) (cx.hts _ q2) (cx.hts _ q3) (cx.hts _ q4) hf hloc h1 h2 d ?_
  rw [e]
  exact K H locs ls hH hk hS hl
theorem a_mmin (cx : CX g M own cc nL rt R) (q1 : Cond.methodLink own index Lib.Math.min.name ∈ lw_all) (q2 : Cond.static Lib.Math.min.name ∈ lw_all) (q3 : Cond.initialized "java/lang/Math" ∈ lw_all) (q4 : Cond.code Lib.Math.min.name Lib.Math.min.code 2 (some .int) ∈ lw_all) {x y : Nat} (hx : x < 2 ^ 30) (hy : y < 2 ^ 30) (d : decode cc pc = .ok (.invokestatic index, 3)) (hf : 1 ≤ R.frames) (hloc : (st.map fun v => v.category).sum + 13 ≤ R.locals) (h1 : k ≤ R.cells) (h2 : n ≤ R.slots)
    (K : AW g M k n (pc + 3) L (.int (nI (min x y)) :: st) h) (hLn : L.length = nL := by rfl) : AW g M k n pc L (.int (nI y) :: .int (nI x) :: st) h := by
  rw [← cx.hR] at hf hloc h1 h2
  intro H locs ls hH hk hS hl
  have e : (if nI y < nI x then nI y else nI x) = nI (min x y) := by
    split
    · rename_i q
      have := lt_nI q (by omega) (by omega)
      congr 1; omega
    · rename_i q
      have := nlt_nI q (by omega) (by omega)
      congr 1; omega
  refine va_mmin cx.hx cx.hb (cx.hml.trans (hl.1.trans hLn).symm) cx.hown (cx.hts _ q1) (cx.hts _ q2) (cx.hts _ q3) (cx.hts _ q4) hf hloc h1 h2 d ?_
  rw [e]
  exact K H locs ls hH hk hS hl
end COPY
