/-! clone of a byte array -/
set_option maxRecDepth 100000
theorem a_cloneB {g : GP} {M : MC} {own : String} {cc : ByteArray} {nL : Nat} {rt : Option FieldType} {R : Room} {k n pc index : Nat} {L : List (Option Value)} {st : List Value} {h : AH} {a m : Nat} {f : Nat → Int32} (cx : CX g M own cc nL rt R) (q1 : Cond.methodLink own index ⟨"[B", "clone", "()Ljava/lang/Object;"⟩ ∈ lw_all) (q2 : Cond.sameMethod "[B" "java/lang/Object" "clone" "()Ljava/lang/Object;" ∈ lw_all) (q3 : Cond.native ⟨"java/lang/Object", "clone", "()Ljava/lang/Object;"⟩ ∈ lw_all) (q4 : Cond.instanceMethod ⟨"java/lang/Object", "clone", "()Ljava/lang/Object;"⟩ ∈ lw_all) (q5 : Cond.selects "[B" ⟨"[B", "clone", "()Ljava/lang/Object;"⟩ ⟨"java/lang/Object", "clone", "()Ljava/lang/Object;"⟩ ∈ lw_all) (q6 : Cond.castable "[B" "java/lang/Cloneable" ∈ lw_tbl)
    (ha : h a = some (eI (g.2.1 1) m f)) (hfit : ∀ i, i < m → fits .byte (.int (f i)) = true) (d : decode cc pc = .ok (.invokevirtual index, 3)) (hf : 1 ≤ R.frames) (hloc : (st.map fun v => v.category).sum + 14 ≤ R.locals) (h1 : k + 1 ≤ R.cells) (h2 : n + m ≤ R.slots)
    (K : ∀ q : Nat, h q = none → gB g ≤ q → AW g M (k + 1) (n + m) (pc + 3) L (.ref q :: st) (hset h q (eI (g.2.1 1) m f))) (hLn : L.length = nL := by rfl) : AW g M k n pc L (.ref a :: st) h := by
  rw [← cx.hR] at hf hloc h1 h2
  intro H locs ls hH hk hS hl T hT X
  have hB : gB g ≤ H.size := Nat.le_trans cx.hG.bz hS.1
  have hc0 : H[a]? = some (vp_cell (g.2.1 1) (m, .inl f)) := hH a _ ha
  obtain ⟨-, k0, hk0, cm0, hkk0⟩ := (cx.hG.K.2 1 _ rfl).1 m (fun j => .int (f j))
  obtain ⟨c0, t1, f1, f2, f3⟩ := Cond.castable_spec (cx.hG.nest (A := Ma M) q6 rfl)
  have hnm : (Ms M).vm.findClass "[B" = some (g.2.1 1) := (cx.hG.K.2 1 _ rfl).2
  cases hnm.symm.trans f1
  have hsz : (vp_cell (g.2.1 1) (m, .inl f)).slots.size = m := by show (arrV _ _ _).slots.size = m; rw [arrV_size]
  obtain ⟨vm', X', step⟩ := X.cloneArray cx.hx cx.hown (cx.hts _ q1) (cx.hts _ q2) (cx.hts _ q3) (cx.hts _ q4) (cx.hts _ q5) (a := a) (cell := vp_cell (g.2.1 1) (m, .inl f)) (by rw [hT]; exact hc0) (fun _ h => by cases h) (fun h => by cases h) hnm f2 f3 (fun i v hv => by
      obtain ⟨k', hk', he⟩ := X.warmed.alike.2.2 _ _ hk0
      have hkd : k'.kind = .array cm0 .byte := by rw [he]; exact hkk0
      have hi : i < m := by
        have := (Array.getElem?_eq_some_iff.mp hv).1
        omega
      have hv2 : (arrV (g.2.1 1) m (fun j => .int (f j))).slots[i]? = some (.int (f i)) := arrV_read _ _ hi
      cases (show some v = some (.int (f i)) from hv.symm.trans hv2)
      have hst : T.slotType? (vp_cell (g.2.1 1) (m, .inl f)).cls .none i = some .byte := by
        have hk2 : T.vm.classes[(vp_cell (g.2.1 1) (m, .inl f)).cls]? = some k' := hk'
        unfold State.slotType?
        rw [hk2]
        show (match k'.kind with | .array _ type => some type | _ => k'.instanceTypes[i]?) = some .byte
        rw [hkd]
      unfold State.fitsSlot
      rw [hst]
      exact hfit i hi)
    (g := F0 (Mm M) pc ls (.ref a :: st)) rfl (hl.1.trans (hLn.trans cx.hml.symm)) (rest := st) rfl (by rw [cx.hb]; exact d) hf (by show 2 * 0 + _ + _ ≤ _; omega) h1 (by rw [hsz]; exact h2) (Vm.clonesLoader_of_array hk0 hkk0)
  have hheap : ((T.setVm vm').pushCell { cls := (vp_cell (g.2.1 1) (m, .inl f)).cls, slots := (vp_cell (g.2.1 1) (m, .inl f)).slots }).heap = H.push (vp_cell (g.2.1 1) (m, .inl f)) := by rw [← hT]; rfl
  have oq : ∀ q : Nat, q < H.size → (H.push (vp_cell (g.2.1 1) (m, .inl f)))[q]? = H[q]? := fun q hq => by rw [Array.getElem?_push]; simp [Nat.ne_of_lt hq]
  rw [hsz] at X'
  obtain ⟨t9, a1, b1⟩ := K H.size hH.fresh hB (H.push (vp_cell (g.2.1 1) (m, .inl f))) _ ls (hH.push (show (H.push _)[H.size]? = some _ by simp) oq) (hk.set cx.hG.ss hB) ⟨Nat.le_trans hS.1 (by simp), fun x g1 g2 => (oq x (Nat.lt_of_lt_of_le g1 hS.1)).trans (hS.2.1 x g1 g2), hS.2.2⟩ hl _ hheap X'
  refine ⟨t9, step t9 ?_, b1⟩
  rw [hT]
  exact a1
theorem a_castB {g : GP} {M : MC} {own : String} {cc : ByteArray} {nL : Nat} {rt : Option FieldType} {R : Room} {k n pc index : Nat} {L : List (Option Value)} {st : List Value} {h : AH} {a m : Nat} {f : Nat → Int32} (cx : CX g M own cc nL rt R) (hlink : Cond.classLink own index "[B" ∈ lw_all) (d : decode cc pc = .ok (.checkcast index, 3)) (ha : h a = some (eI (g.2.1 1) m f)) (K : AW g M k n (pc + 3) L (.ref a :: st) h) : AW g M k n pc L (.ref a :: st) h :=
  fun H locs ls hH hk hS hl => va_castE cx.hx cx.hb cx.hown (cx.hts _ hlink) ⟨_, hH a _ ha, rfl, (cx.hG.K.2 1 _ rfl).2⟩ d (K H locs ls hH hk hS hl)
