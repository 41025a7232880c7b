/-! THE MODEL: a new one -/
set_option maxRecDepth 100000
/-- being built: its arrays so far -/
def BLD (g : GP) (h0 : AH) (a : Nat) (qs lens : List Nat) (fs : List Value) (h : AH) : Prop :=
  h a = some (eO 2 fs) ∧ (∀ i : Nat, i < qs.length → h (qs.getD i 0) = some (eI (g.2.1 0) (lens.getD i 0) (fun _ => 0))) ∧ (∀ x : Nat, x ≠ a → x ∉ qs → h x = h0 x) ∧ a ∉ qs ∧ (∀ i j : Nat, i < qs.length → j < qs.length → qs.getD i 0 = qs.getD j 0 → i = j) ∧ (∀ q : Nat, q ∈ qs → h0 q = none) ∧ qs.length = lens.length
theorem getD_mem {l : List Nat} {i : Nat} (h : i < l.length) : l.getD i 0 ∈ l := by
  rw [List.getD_eq_getElem?_getD, List.getElem?_eq_getElem h]
  exact List.getElem_mem h
theorem getD_app {l : List Nat} {i q : Nat} (h : i < l.length) : (l ++ [q]).getD i 0 = l.getD i 0 := by
  rw [List.getD_eq_getElem?_getD, List.getD_eq_getElem?_getD, List.getElem?_append_left h]
theorem getD_last {l : List Nat} {q : Nat} : (l ++ [q]).getD l.length 0 = q := by
  rw [List.getD_eq_getElem?_getD, List.getElem?_append_right (Nat.le_refl _), Nat.sub_self]; rfl
theorem BLD.add {g : GP} {h0 h : AH} {a q m j : Nat} {qs lens : List Nat} {fs : List Value} (b : BLD g h0 a qs lens fs h) (hq : h q = none) : BLD g h0 a (qs ++ [q]) (lens ++ [m]) (fs.set j (.ref q)) (hset (hset h q (eI (g.2.1 0) m (fun _ => 0))) a (eO 2 (fs.set j (.ref q)))) := by
  obtain ⟨b1, b2, b3, b4, b5, b6, b7⟩ := b
  have hqa : q ≠ a := fun e => by rw [e, b1] at hq; cases hq
  have hqq : ∀ i, i < qs.length → qs.getD i 0 ≠ q := fun i hi e => by have := b2 i hi; rw [e, hq] at this; cases this
  have hqm : q ∉ qs := fun hm => by
    obtain ⟨i, hi, e⟩ := List.mem_iff_getElem.mp hm
    exact hqq i hi (by rw [List.getD_eq_getElem?_getD, List.getElem?_eq_getElem hi]; exact e)
  have hlen : (qs ++ [q]).length = qs.length + 1 := by rw [List.length_append]; rfl
  refine ⟨hset_s .., fun i hi => ?_, fun x hx hxm => ?_, fun hm => ?_, fun i j hi hj e => ?_, fun x hx => ?_, by rw [List.length_append, List.length_append, b7]; rfl⟩
  · rw [hlen] at hi
    by_cases hl : i < qs.length
    · rw [getD_app hl, getD_app (by omega), hset_n (fun e => b4 (by rw [← e]; exact getD_mem hl)), hset_n (hqq i hl)]
      exact b2 i hl
    · rw [show i = qs.length by omega, getD_last, b7, getD_last, hset_n hqa, hset_s]
  · rw [hset_n hx, hset_n (fun e => hxm (by rw [e]; exact List.mem_append_right _ List.mem_cons_self))]
    exact b3 x hx (fun hm => hxm (List.mem_append_left _ hm))
  · rcases List.mem_append.mp hm with h1 | h1
    · exact b4 h1
    · exact hqa (List.mem_singleton.mp h1).symm
  · rw [hlen] at hi hj
    by_cases h1 : i < qs.length
    · by_cases h2 : j < qs.length
      · rw [getD_app h1, getD_app h2] at e; exact b5 i j h1 h2 e
      · rw [getD_app h1, show j = qs.length by omega, getD_last] at e; exact absurd e (hqq i h1)
    · by_cases h2 : j < qs.length
      · rw [getD_app h2, show i = qs.length by omega, getD_last] at e; exact absurd e.symm (hqq j h2)
      · omega
  · rcases List.mem_append.mp hx with h1 | h1
    · exact b6 x h1
    · rw [List.mem_singleton.mp h1, ← b3 q hqa hqm]; exact hq
theorem b_arr {g : GP} {M : MC} {own : String} {cc : ByteArray} {nL : Nat} {rt : Option FieldType} {R : Room} {k n pc index m j a : Nat} {L : List (Option Value)} {st : List Value} {h h0 : AH} {qs lens : List Nat} {fs : List Value} (cx : CX g M own cc nL rt R) (hin : (Mt M).name = "<init>") (hB : gB g ≤ a) (b : BLD g h0 a qs lens fs h) {i : Int32} (hi : i = nI m) (hm : m < 2 ^ 16) (d1 : decode cc pc = .ok (.newarray .int, 2)) (f : FL own index 2 j (.array .int) true false) (d2 : decode cc (pc + 2) = .ok (.putfield index, 3)) (h1 : k + 1 ≤ R.cells) (h2 : n + m ≤ R.slots) (hlt : j < fs.length)
    (K : ∀ (q : Nat) (h' : AH), BLD g h0 a (qs ++ [q]) (lens ++ [m]) (fs.set j (.ref q)) h' → AW g M (k + 1) (n + m) (pc + 5) L st h') : AW g M k n pc L (.int i :: .ref a :: st) h := by
  refine a_newaI cx d1 hi hm h1 h2 (fun q hq hBq => ?_)
  have hqa : a ≠ q := fun e => by rw [← e, b.1] at hq; cases hq
  exact a_putF cx hin f d2 ((hset_n hqa).trans b.1) hB rfl rfl hlt (K q _ (b.add hq))
/-- the empty state -/
def S0 : ST := (sNew, [], none, [], [], none, none, 0, 0)
theorem RM.new {σ : MS} (h1 : σ.2 1 = sNew) (h2 : ∀ k, k ≠ 5 → k ≠ 6 → σ.1 k = 0) (h3 : σ.1 5 = -1) (h4 : σ.1 6 = -1) : RM S0 σ :=
  ⟨h1, h2 1 (by decide) (by decide), fun k f hk => (by have hk' : ([] : List SF)[k]? = some f := hk; cases hk'), h2 2 (by decide) (by decide), fun f hf => (by have hf' : (none : Option SF) = some f := hf; cases hf'), h2 3 (by decide) (by decide), fun i c hc => (by have hc' : ([] : List Int32)[i]? = some c := hc; cases hc'), h2 4 (by decide) (by decide), fun i c hc => (by have hc' : ([] : List Int32)[i]? = some c := hc; cases hc'), h3, h4, h2 7 (by decide) (by decide), h2 8 (by decide) (by decide)⟩
def adQ (a : Nat) (qs : List Nat) : Nat → Nat
  | 0 => a
  | i + 1 => qs.getD i 0
def z0 : MS := (fun _ => 0, fun _ _ => 0)
theorem BLD.mst {g : GP} {h0 h : AH} {a : Nat} {qs lens : List Nat} {fs : List Value} (b : BLD g h0 a qs lens fs h) (hq : qs.length = 11) (hl : lens = [93, 93, 93, 744, 93, 93, 60, 240, 80, 6, 6]) (hf : fs = mFs (adQ a qs) z0) : MSt g (adQ a qs) h0 z0 h := by
  obtain ⟨b1, b2, b3, b4, b5, b6, b7⟩ := b
  refine ⟨by rw [← hf]; exact b1, fun i hi => ?_, fun q hq9 => ?_, fun i j hi hj e => ?_⟩
  · have := b2 i (by omega)
    have hm : ∀ i, i < 11 → ([93, 93, 93, 744, 93, 93, 60, 240, 80, 6, 6] : List Nat).getD i 0 = mLen (i + 1) := by decide
    rw [hl, hm i hi] at this
    exact this
  · refine b3 q (hq9 0 (by decide)) (fun hm => ?_)
    obtain ⟨i, hi, e⟩ := List.mem_iff_getElem.mp hm
    exact hq9 (i + 1) (by omega) (by show q = qs.getD i 0; rw [List.getD_eq_getElem?_getD, List.getElem?_eq_getElem hi]; exact e.symm)
  · cases i with
    | zero =>
      cases j with
      | zero => rfl
      | succ j => exact absurd (show a ∈ qs by rw [show a = qs.getD j 0 from e]; exact getD_mem (by omega)) b4
    | succ i =>
      cases j with
      | zero => exact absurd (show a ∈ qs by rw [show a = qs.getD i 0 from e.symm]; exact getD_mem (by omega)) b4
      | succ j => exact congrArg (· + 1) (b5 i j (by omega) (by omega) e)
abbrev rm_X3_init : Room := { frames := 1, cells := 11, slots := 1601, locals := 61 }
set_option maxHeartbeats 4000000 in
theorem k3_init {lx : Launch} {g : GP} {h : AH} (htr : lx.stackTraces = false) {a : Nat} {h0 : AH} (ha : h a = some (eO 2 [.int 0, .null, .null, .null, .null, .null, .null, .int 0, .int 0, .null, .null, .null, .null, .null, .int 0, .int 0, .int 0, .int 0, .int 0, .int 0, .int 0, .int 0, .int 0, .int 0, .int 0, .int 0])) (h00 : h0 = h) (hB : gB g ≤ a) : KT lx g yX3_init (ws_ yX3_init cX3_init 1 none) rm_X3_init 11 1601 [.ref a] h (fun v h' => v = none ∧ ∃ (qs : List Nat) (σ : MS), MSt g (adQ a qs) h0 σ h' ∧ RM S0 σ ∧ (∀ q, q ∈ qs → h0 q = none) ∧ qs.length = 11) (noX) := by
  refine KT.of (by decide +kernel) htr (Nat.le_of_ble_eq_true rfl) (L0 := [some (.ref a)]) rfl ?_
  intro M cx hl9 hq hin hnx
  have hb0 : BLD g h0 a [] [] [.int 0, .null, .null, .null, .null, .null, .null, .int 0, .int 0, .null, .null, .null, .null, .null, .int 0, .int 0, .int 0, .int 0, .int 0, .int 0, .int 0, .int 0, .int 0, .int 0, .int 0, .int 0] h := ⟨ha, fun i hi => absurd hi (Nat.not_lt_zero _), fun x _ _ => by rw [h00], fun q => (by cases q), fun i j hi => absurd hi (Nat.not_lt_zero _), fun q hq => (by cases hq), rfl⟩
  refine a_aload_n cx dX3_init_0 rfl ?_
  refine a_objInit cx q1960 q124 q125 dX3_init_1 (Nat.le_of_ble_eq_true rfl) (Nat.le_of_ble_eq_true rfl) ?_
  refine a_aload_n cx dX3_init_4 rfl ?_
  refine a_bipush cx (v := 93) dX3_init_5 (by decide) ?_
  refine b_arr cx (hin.trans rfl) hB hb0 (m := 93) rfl (by decide) dX3_init_7 fl_X3_7 dX3_init_9 (Nat.le_of_ble_eq_true rfl) (Nat.le_of_ble_eq_true rfl) (by exact (Nat.le_of_ble_eq_true rfl)) (fun q1 h hb1 => ?_)
  refine a_aload_n cx dX3_init_12 rfl ?_
  refine a_bipush cx (v := 93) dX3_init_13 (by decide) ?_
  refine b_arr cx (hin.trans rfl) hB hb1 (m := 93) rfl (by decide) dX3_init_15 fl_X3_13 dX3_init_17 (Nat.le_of_ble_eq_true rfl) (Nat.le_of_ble_eq_true rfl) (by exact (Nat.le_of_ble_eq_true rfl)) (fun q2 h hb2 => ?_)
  refine a_aload_n cx dX3_init_20 rfl ?_
  refine a_bipush cx (v := 93) dX3_init_21 (by decide) ?_
  refine b_arr cx (hin.trans rfl) hB hb2 (m := 93) rfl (by decide) dX3_init_23 fl_X3_16 dX3_init_25 (Nat.le_of_ble_eq_true rfl) (Nat.le_of_ble_eq_true rfl) (by exact (Nat.le_of_ble_eq_true rfl)) (fun q3 h hb3 => ?_)
  refine a_aload_n cx dX3_init_28 rfl ?_
  refine a_sipush cx (v := 744) dX3_init_29 (by decide) ?_
  refine b_arr cx (hin.trans rfl) hB hb3 (m := 744) rfl (by decide) dX3_init_32 fl_X3_19 dX3_init_34 (Nat.le_of_ble_eq_true rfl) (Nat.le_of_ble_eq_true rfl) (by exact (Nat.le_of_ble_eq_true rfl)) (fun q4 h hb4 => ?_)
  refine a_aload_n cx dX3_init_37 rfl ?_
  refine a_bipush cx (v := 93) dX3_init_38 (by decide) ?_
  refine b_arr cx (hin.trans rfl) hB hb4 (m := 93) rfl (by decide) dX3_init_40 fl_X3_22 dX3_init_42 (Nat.le_of_ble_eq_true rfl) (Nat.le_of_ble_eq_true rfl) (by exact (Nat.le_of_ble_eq_true rfl)) (fun q5 h hb5 => ?_)
  refine a_aload_n cx dX3_init_45 rfl ?_
  refine a_bipush cx (v := 93) dX3_init_46 (by decide) ?_
  refine b_arr cx (hin.trans rfl) hB hb5 (m := 93) rfl (by decide) dX3_init_48 fl_X3_25 dX3_init_50 (Nat.le_of_ble_eq_true rfl) (Nat.le_of_ble_eq_true rfl) (by exact (Nat.le_of_ble_eq_true rfl)) (fun q6 h hb6 => ?_)
  refine a_aload_n cx dX3_init_53 rfl ?_
  refine a_bipush cx (v := 60) dX3_init_54 (by decide) ?_
  refine b_arr cx (hin.trans rfl) hB hb6 (m := 60) rfl (by decide) dX3_init_56 fl_X3_28 dX3_init_58 (Nat.le_of_ble_eq_true rfl) (Nat.le_of_ble_eq_true rfl) (by exact (Nat.le_of_ble_eq_true rfl)) (fun q7 h hb7 => ?_)
  refine a_aload_n cx dX3_init_61 rfl ?_
  refine a_sipush cx (v := 240) dX3_init_62 (by decide) ?_
  refine b_arr cx (hin.trans rfl) hB hb7 (m := 240) rfl (by decide) dX3_init_65 fl_X3_31 dX3_init_67 (Nat.le_of_ble_eq_true rfl) (Nat.le_of_ble_eq_true rfl) (by exact (Nat.le_of_ble_eq_true rfl)) (fun q8 h hb8 => ?_)
  refine a_aload_n cx dX3_init_70 rfl ?_
  refine a_bipush cx (v := 80) dX3_init_71 (by decide) ?_
  refine b_arr cx (hin.trans rfl) hB hb8 (m := 80) rfl (by decide) dX3_init_73 fl_X3_34 dX3_init_75 (Nat.le_of_ble_eq_true rfl) (Nat.le_of_ble_eq_true rfl) (by exact (Nat.le_of_ble_eq_true rfl)) (fun q9 h hb9 => ?_)
  refine a_aload_n cx dX3_init_78 rfl ?_
  refine a_bipush cx (v := 6) dX3_init_79 (by decide) ?_
  refine b_arr cx (hin.trans rfl) hB hb9 (m := 6) rfl (by decide) dX3_init_81 fl_X3_37 dX3_init_83 (Nat.le_of_ble_eq_true rfl) (Nat.le_of_ble_eq_true rfl) (by exact (Nat.le_of_ble_eq_true rfl)) (fun q10 h hb10 => ?_)
  refine a_aload_n cx dX3_init_86 rfl ?_
  refine a_bipush cx (v := 6) dX3_init_87 (by decide) ?_
  refine b_arr cx (hin.trans rfl) hB hb10 (m := 6) rfl (by decide) dX3_init_89 fl_X3_40 dX3_init_91 (Nat.le_of_ble_eq_true rfl) (Nat.le_of_ble_eq_true rfl) (by exact (Nat.le_of_ble_eq_true rfl)) (fun q11 h hb11 => ?_)
  have hm : MSt g (adQ a [q1, q2, q3, q4, q5, q6, q7, q8, q9, q10, q11]) h0 z0 h := hb11.mst rfl rfl (by rfl)
  have hadq : ∀ q, q ∈ [q1, q2, q3, q4, q5, q6, q7, q8, q9, q10, q11] → h0 q = none := hb11.2.2.2.2.2.1
  refine a_aload_n cx dX3_init_94 rfl ?_
  refine a_iconst cx (v := -1) dX3_init_95 (by decide) ?_
  refine m_put cx (i := 5) fl_X3_43 dX3_init_96 hm rfl rfl rfl (fun h hm => ?_)
  refine a_aload_n cx dX3_init_99 rfl ?_
  refine a_iconst cx (v := -1) dX3_init_100 (by decide) ?_
  refine m_put cx (i := 6) fl_X3_47 dX3_init_101 hm rfl rfl rfl (fun h hm => ?_)
  refine a_aload_n cx dX3_init_104 rfl ?_
  refine m_callv cx (k3_begins cx.htr) (lw_V q1961 q1963 qs26 q87 q1964) dn_X3_begins (RN.of rfl rfl rfl rfl) rfl hm rfl rfl (Nat.le_of_ble_eq_true rfl) dX3_init_105 (Nat.le_of_ble_eq_true rfl) (Nat.le_of_ble_eq_true rfl) (fun h hm => ?_)
  exact a_vret cx hq dX3_init_108 ⟨rfl, [q1, q2, q3, q4, q5, q6, q7, q8, q9, q10, q11], _, hm, RM.new rfl (fun k h1 h2 => by show upd (upd (fun _ => 0) 5 (-1)) 6 (-1) k = 0; rw [upd_n h2, upd_n h1]) rfl rfl, hadq, rfl⟩ (Nat.le_of_ble_eq_true rfl) (Nat.le_of_ble_eq_true rfl)
