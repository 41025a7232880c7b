/-! THE MODEL: copies, rounds -/
set_option maxRecDepth 100000
/-- the state but for the row s and some scratch arrays is as before -/
def SX (σ σ' : MS) (s' : SF) (l : List Nat) : Prop := σ'.1 = σ.1 ∧ σ'.2 1 = s' ∧ ∀ i, i ≠ 1 → i ∉ l → σ'.2 i = σ.2 i
def beg0 (s : SF) (k : Nat) : SF := cpf s (fun _ => 0) k
def beg1 (s : SF) (k : Nat) : SF := cpf (cpf s (fun _ => 0) 93) (fun j => if 6 ≤ j then -1 else cpf s (fun _ => 0) 93 j) (6 + k)
/-- the row of an empty field -/
def sNew : SF := fun j => if j = 6 ∨ j = 7 ∨ j = 8 then -1 else 0
theorem beg1_0 (s : SF) : beg1 s 0 = cpf s (fun _ => 0) 93 := by
  funext j
  unfold beg1 cpf
  by_cases h : j < 6 + 0
  · have : j < 93 := by omega
    have h6 : ¬ 6 ≤ j := by omega
    simp [h, this, h6]
  · simp [h]
theorem beg1_s (s : SF) (k : Nat) : upd (beg1 s k) (6 + k) (-1) = beg1 s (k + 1) := by
  have h := cpf_s (cpf s (fun _ => 0) 93) (fun j => if 6 ≤ j then (-1 : Int32) else cpf s (fun _ => 0) 93 j) (6 + k)
  rw [if_pos (by omega)] at h
  exact h
theorem beg1_3 (s : SF) : ∀ j, j < 93 → beg1 s 3 j = sNew j := by
  intro j hj
  unfold beg1 sNew
  by_cases h : j < 6 + 3
  · rw [cpf_lt h]
    by_cases h6 : 6 ≤ j
    · rw [if_pos h6, if_pos (by omega)]
    · rw [if_neg h6, if_neg (by omega), cpf_lt hj]
  · rw [cpf_ge (by omega), cpf_lt hj, if_neg (by omega)]
abbrev rm_X3_begins : Room := { frames := 0, cells := 0, slots := 0, locals := 0 }
set_option maxHeartbeats 4000000 in
theorem k3_begins {l : Launch} {g : GP} {ad : Nat → Nat} {σ : MS} (htr : l.stackTraces = false)  : MKv l g ad yX3_begins cX3_begins 2 rm_X3_begins σ [] (ma σ 1 sNew) := by
  refine MK.of (by decide +kernel) htr (Nat.le_of_ble_eq_true rfl) (L0 := [some (.ref (ad 0)), none]) rfl ?_
  intro M h0 h cx _ hq hm
  refine a_iconst cx (v := 0) dX3_begins_0 (by decide) ?_
  refine a_istore_n cx dX3_begins_1 (Nat.le_of_ble_eq_true rfl) rfl ?_
  have loop : ∀ (j k : Nat) (h : AH), k ≤ 93 → 93 < k + j → MSt g ad h0 (ma σ 1 (cpf (σ.2 1) (fun _ => 0) k)) h → AW g M 0 0 2 [some (.ref (ad 0)), some (.int (nI k))] [] h := by
    intro j
    induction j with
    | zero => intro k h h1 h2; omega
    | succ j ih =>
      intro k h h1 h2 hm
      refine a_iload_n cx dX3_begins_2 rfl ?_
      refine a_bipush cx (v := 93) dX3_begins_3 (by decide) ?_
      refine a_icmp_ge cx (tgt := 21) dX3_begins_5 (by decide) (fun c5 => ?_) (fun c5 => ?_)
      · have d5 := le_nI (a := 93) c5 (by omega) (by omega)
        have e5 : k = 93 := by omega
        subst e5
        refine a_iconst cx (v := 0) dX3_begins_21 (by decide) ?_
        refine a_istore_n cx dX3_begins_22 (Nat.le_of_ble_eq_true rfl) rfl ?_
        have loop2 : ∀ (j k : Nat) (h : AH), k ≤ 3 → 3 < k + j → MSt g ad h0 (ma σ 1 (beg1 (σ.2 1) k)) h → AW g M 0 0 23 [some (.ref (ad 0)), some (.int (nI k))] [] h := by
          intro j
          induction j with
          | zero => intro k h h1 h2; omega
          | succ j ih2 =>
            intro k h h1 h2 hm
            refine a_iload_n cx dX3_begins_23 rfl ?_
            refine a_iconst cx (v := 3) dX3_begins_24 (by decide) ?_
            refine a_icmp_ge cx (tgt := 44) dX3_begins_25 (by decide) (fun c25 => ?_) (fun c25 => ?_)
            · have d25 := le_nI (a := 3) c25 (by omega) (by omega)
              have e25 : k = 3 := by omega
              subst e25
              refine m_norm cx 0 (by decide) (f := sNew) hm (fun j hj => beg1_3 _ j hj) (fun h hm => ?_)
              exact a_vret cx hq dX3_begins_44 ⟨_, ⟨rfl, (by rw [ma_ma])⟩, hm⟩ (Nat.zero_le _) (Nat.zero_le _)
            · have d25 := nle_nI (a := 3) c25 (by omega) (by omega)
              refine a_aload_n cx dX3_begins_28 rfl ?_
              refine a_get cx fl_X3_7.g dX3_begins_29 hm.o rfl ?_
              refine a_bipush cx (v := 6) dX3_begins_32 (by decide) ?_
              refine a_iload_n cx dX3_begins_34 rfl ?_
              refine a_iadd cx dX3_begins_35 ?_
              refine a_iconst cx (v := -1) dX3_begins_36 (by decide) ?_
              refine m_iast cx (i := 0) (by decide) dX3_begins_37 hm (ix6 _) (show _ < 93 from by omega) (fun h hm => ?_)
              refine a_iincN cx dX3_begins_38 rfl (Nat.le_of_ble_eq_true rfl) rfl ?_
              refine a_goto cx (tgt := 23) dX3_begins_41 (by decide) ?_
              exact ih2 (k + 1) h (by omega) (by omega) (hm.eq (by rw [ma_ma]; exact congrArg _ (beg1_s _ k)))
        exact loop2 (3 + 1) 0 h (by omega) (by omega) (hm.eq (by rw [beg1_0]))
      · have d5 := nle_nI (a := 93) c5 (by omega) (by omega)
        refine a_aload_n cx dX3_begins_8 rfl ?_
        refine a_get cx fl_X3_7.g dX3_begins_9 hm.o rfl ?_
        refine a_iload_n cx dX3_begins_12 rfl ?_
        refine a_iconst cx (v := 0) dX3_begins_13 (by decide) ?_
        refine m_iast cx (i := 0) (by decide) dX3_begins_14 hm rfl (show _ < 93 from by omega) (fun h hm => ?_)
        refine a_iincN cx dX3_begins_15 rfl (Nat.le_of_ble_eq_true rfl) rfl ?_
        refine a_goto cx (tgt := 2) dX3_begins_18 (by decide) ?_
        exact ih (k + 1) h (by omega) (by omega) (hm.eq (by rw [ma_ma]; exact congrArg _ (cpf_s _ (fun _ => 0) k)))
  exact loop (93 + 1) 0 h (by omega) (by omega) (hm.eq (by rw [cpf_0, ma_self]))
abbrev rm_X3_remembers : Room := { frames := 0, cells := 0, slots := 0, locals := 0 }
set_option maxHeartbeats 4000000 in
theorem k3_remembers {l : Launch} {g : GP} {ad : Nat → Nat} {σ : MS} (htr : l.stackTraces = false)  : MKv l g ad yX3_remembers cX3_remembers 2 rm_X3_remembers σ [] (ma (mv σ 0 0) 2 (σ.2 1)) := by
  refine MK.of (by decide +kernel) htr (Nat.le_of_ble_eq_true rfl) (L0 := [some (.ref (ad 0)), none]) rfl ?_
  intro M h0 h cx _ hq hm
  refine a_aload_n cx dX3_remembers_0 rfl ?_
  refine a_iconst cx (v := 0) dX3_remembers_1 (by decide) ?_
  refine m_put cx (i := 0) fl_X3_53 dX3_remembers_2 hm rfl rfl rfl (fun h hm => ?_)
  refine a_iconst cx (v := 0) dX3_remembers_5 (by decide) ?_
  refine a_istore_n cx dX3_remembers_6 (Nat.le_of_ble_eq_true rfl) rfl ?_
  have loop : ∀ (j k : Nat) (h : AH), k ≤ 93 → 93 < k + j → MSt g ad h0 (ma (mv σ 0 0) 2 (cpf (σ.2 2) (σ.2 1) k)) h → AW g M 0 0 7 [some (.ref (ad 0)), some (.int (nI k))] [] h := by
    intro j
    induction j with
    | zero => intro k h h1 h2; omega
    | succ j ih =>
      intro k h h1 h2 hm
      refine a_iload_n cx dX3_remembers_7 rfl ?_
      refine a_bipush cx (v := 93) dX3_remembers_8 (by decide) ?_
      refine a_icmp_ge cx (tgt := 31) dX3_remembers_10 (by decide) (fun c10 => ?_) (fun c10 => ?_)
      · have d10 := le_nI (a := 93) c10 (by omega) (by omega)
        have e10 : k = 93 := by omega
        subst e10
        refine m_norm cx 1 (by decide) (f := σ.2 1) hm (fun j hj => cpf_lt hj) (fun h hm => ?_)
        exact a_vret cx hq dX3_remembers_31 ⟨_, ⟨rfl, (by rw [ma_ma])⟩, hm⟩ (Nat.zero_le _) (Nat.zero_le _)
      · have d10 := nle_nI (a := 93) c10 (by omega) (by omega)
        refine a_aload_n cx dX3_remembers_13 rfl ?_
        refine a_get cx fl_X3_13.g dX3_remembers_14 hm.o rfl ?_
        refine a_iload_n cx dX3_remembers_17 rfl ?_
        refine a_aload_n cx dX3_remembers_18 rfl ?_
        refine a_get cx fl_X3_7.g dX3_remembers_19 hm.o rfl ?_
        refine a_iload_n cx dX3_remembers_22 rfl ?_
        refine a_iald cx dX3_remembers_23 hm.a1 rfl (by omega) (by decide) ?_
        refine m_iast cx (i := 1) (by decide) dX3_remembers_24 hm rfl (show _ < 93 from by omega) (fun h hm => ?_)
        refine a_iincN cx dX3_remembers_25 rfl (Nat.le_of_ble_eq_true rfl) rfl ?_
        refine a_goto cx (tgt := 7) dX3_remembers_28 (by decide) ?_
        exact ih (k + 1) h (by omega) (by omega) (hm.eq (by rw [ma_ma]; exact congrArg _ (cpf_s _ _ k)))
  exact loop (93 + 1) 0 h (by omega) (by omega) (hm.eq (by rw [cpf_0]; exact (ma_self (mv σ 0 0) 2).symm))
abbrev rm_X3_thinks : Room := { frames := 0, cells := 0, slots := 0, locals := 0 }
set_option maxHeartbeats 4000000 in
theorem k3_thinks {l : Launch} {g : GP} {ad : Nat → Nat} {σ : MS} (htr : l.stackTraces = false)  : MKv l g ad yX3_thinks cX3_thinks 2 rm_X3_thinks σ [] (ma σ 5 (σ.2 1)) := by
  refine MK.of (by decide +kernel) htr (Nat.le_of_ble_eq_true rfl) (L0 := [some (.ref (ad 0)), none]) rfl ?_
  intro M h0 h cx _ hq hm
  refine a_iconst cx (v := 0) dX3_thinks_0 (by decide) ?_
  refine a_istore_n cx dX3_thinks_1 (Nat.le_of_ble_eq_true rfl) rfl ?_
  have loop : ∀ (j k : Nat) (h : AH), k ≤ 93 → 93 < k + j → MSt g ad h0 (ma σ 5 (cpf (σ.2 5) (σ.2 1) k)) h → AW g M 0 0 2 [some (.ref (ad 0)), some (.int (nI k))] [] h := by
    intro j
    induction j with
    | zero => intro k h h1 h2; omega
    | succ j ih =>
      intro k h h1 h2 hm
      refine a_iload_n cx dX3_thinks_2 rfl ?_
      refine a_bipush cx (v := 93) dX3_thinks_3 (by decide) ?_
      refine a_icmp_ge cx (tgt := 26) dX3_thinks_5 (by decide) (fun c5 => ?_) (fun c5 => ?_)
      · have d5 := le_nI (a := 93) c5 (by omega) (by omega)
        have e5 : k = 93 := by omega
        subst e5
        refine m_norm cx 4 (by decide) (f := σ.2 1) hm (fun j hj => cpf_lt hj) (fun h hm => ?_)
        exact a_vret cx hq dX3_thinks_26 ⟨_, ⟨rfl, (by rw [ma_ma])⟩, hm⟩ (Nat.zero_le _) (Nat.zero_le _)
      · have d5 := nle_nI (a := 93) c5 (by omega) (by omega)
        refine a_aload_n cx dX3_thinks_8 rfl ?_
        refine a_get cx fl_X3_22.g dX3_thinks_9 hm.o rfl ?_
        refine a_iload_n cx dX3_thinks_12 rfl ?_
        refine a_aload_n cx dX3_thinks_13 rfl ?_
        refine a_get cx fl_X3_7.g dX3_thinks_14 hm.o rfl ?_
        refine a_iload_n cx dX3_thinks_17 rfl ?_
        refine a_iald cx dX3_thinks_18 hm.a1 rfl (by omega) (by decide) ?_
        refine m_iast cx (i := 4) (by decide) dX3_thinks_19 hm rfl (show _ < 93 from by omega) (fun h hm => ?_)
        refine a_iincN cx dX3_thinks_20 rfl (Nat.le_of_ble_eq_true rfl) rfl ?_
        refine a_goto cx (tgt := 2) dX3_thinks_23 (by decide) ?_
        exact ih (k + 1) h (by omega) (by omega) (hm.eq (by rw [ma_ma]; exact congrArg _ (cpf_s _ _ k)))
  exact loop (93 + 1) 0 h (by omega) (by omega) (hm.eq (by rw [cpf_0]; exact (ma_self σ 5).symm))
abbrev rm_X3_forgets : Room := { frames := 0, cells := 0, slots := 0, locals := 0 }
set_option maxHeartbeats 4000000 in
theorem k3_forgets {l : Launch} {g : GP} {ad : Nat → Nat} {σ : MS} (htr : l.stackTraces = false)  : MKv l g ad yX3_forgets cX3_forgets 2 rm_X3_forgets σ [] (ma σ 1 (σ.2 5)) := by
  refine MK.of (by decide +kernel) htr (Nat.le_of_ble_eq_true rfl) (L0 := [some (.ref (ad 0)), none]) rfl ?_
  intro M h0 h cx _ hq hm
  refine a_iconst cx (v := 0) dX3_forgets_0 (by decide) ?_
  refine a_istore_n cx dX3_forgets_1 (Nat.le_of_ble_eq_true rfl) rfl ?_
  have loop : ∀ (j k : Nat) (h : AH), k ≤ 93 → 93 < k + j → MSt g ad h0 (ma σ 1 (cpf (σ.2 1) (σ.2 5) k)) h → AW g M 0 0 2 [some (.ref (ad 0)), some (.int (nI k))] [] h := by
    intro j
    induction j with
    | zero => intro k h h1 h2; omega
    | succ j ih =>
      intro k h h1 h2 hm
      refine a_iload_n cx dX3_forgets_2 rfl ?_
      refine a_bipush cx (v := 93) dX3_forgets_3 (by decide) ?_
      refine a_icmp_ge cx (tgt := 26) dX3_forgets_5 (by decide) (fun c5 => ?_) (fun c5 => ?_)
      · have d5 := le_nI (a := 93) c5 (by omega) (by omega)
        have e5 : k = 93 := by omega
        subst e5
        refine m_norm cx 0 (by decide) (f := σ.2 5) hm (fun j hj => cpf_lt hj) (fun h hm => ?_)
        exact a_vret cx hq dX3_forgets_26 ⟨_, ⟨rfl, (by rw [ma_ma])⟩, hm⟩ (Nat.zero_le _) (Nat.zero_le _)
      · have d5 := nle_nI (a := 93) c5 (by omega) (by omega)
        refine a_aload_n cx dX3_forgets_8 rfl ?_
        refine a_get cx fl_X3_7.g dX3_forgets_9 hm.o rfl ?_
        refine a_iload_n cx dX3_forgets_12 rfl ?_
        refine a_aload_n cx dX3_forgets_13 rfl ?_
        refine a_get cx fl_X3_22.g dX3_forgets_14 hm.o rfl ?_
        refine a_iload_n cx dX3_forgets_17 rfl ?_
        refine a_iald cx dX3_forgets_18 hm.a5 rfl (by omega) (by decide) ?_
        refine m_iast cx (i := 0) (by decide) dX3_forgets_19 hm rfl (show _ < 93 from by omega) (fun h hm => ?_)
        refine a_iincN cx dX3_forgets_20 rfl (Nat.le_of_ble_eq_true rfl) rfl ?_
        refine a_goto cx (tgt := 2) dX3_forgets_23 (by decide) ?_
        exact ih (k + 1) h (by omega) (by omega) (hm.eq (by rw [ma_ma]; exact congrArg _ (cpf_s _ _ k)))
  exact loop (93 + 1) 0 h (by omega) (by omega) (hm.eq (by rw [cpf_0]; exact (ma_self σ 1).symm))
abbrev rm_X3_belongs : Room := { frames := 0, cells := 0, slots := 0, locals := 0 }
set_option maxHeartbeats 4000000 in
theorem k3_belongs {l : Launch} {g : GP} {ad : Nat → Nat} {σ : MS} (htr : l.stackTraces = false) {i : Nat} {v : Int32} (hi : i < 18) : MKv l g ad yX3_belongs cX3_belongs 3 rm_X3_belongs σ [.int (nI i), .int v] (ma σ 1 (bel (σ.2 1) i v)) := by
  refine MK.of (by decide +kernel) htr (Nat.le_of_ble_eq_true rfl) (L0 := [some (.ref (ad 0)), some (.int (nI i)), some (.int v)]) rfl ?_
  intro M h0 h cx _ hq hm
  refine a_aload_n cx dX3_belongs_0 rfl ?_
  refine a_get cx fl_X3_7.g dX3_belongs_1 hm.o rfl ?_
  refine a_iconst cx (v := 5) dX3_belongs_4 (by decide) ?_
  refine a_dup2 cx dX3_belongs_5 rfl rfl ?_
  refine a_iald cx dX3_belongs_6 hm.a1 (show (5 : Int32) = nI 5 from rfl) (by omega) (by decide) ?_
  refine a_aload_n cx dX3_belongs_7 rfl ?_
  refine a_get cx fl_X3_7.g dX3_belongs_8 hm.o rfl ?_
  refine a_bipush cx (v := 63) dX3_belongs_11 (by decide) ?_
  refine a_iload_n cx dX3_belongs_13 rfl ?_
  refine a_iadd cx dX3_belongs_14 ?_
  refine a_iald cx dX3_belongs_15 hm.a1 (ix3 _) (by omega) (by decide) ?_
  refine a_iload_n cx dX3_belongs_16 rfl ?_
  have J : ∀ (z : Int32), z = (σ.2 1) 5 + (if (σ.2 1) (63 + i) = v then 0 else 1) → AW g M 0 0 26 [some (.ref (ad 0)), some (.int (nI i)), some (.int v)] [.int z, .int 5, .ref (ad 1)] h := by
    intro z ez
    subst ez
    refine m_iast cx (i := 0) (by decide) dX3_belongs_26 hm (show (5 : Int32) = nI 5 from rfl) (show _ < 93 from by omega) (fun h hm => ?_)
    refine a_aload_n cx dX3_belongs_27 rfl ?_
    refine a_get cx fl_X3_7.g dX3_belongs_28 hm.o rfl ?_
    refine a_bipush cx (v := 63) dX3_belongs_31 (by decide) ?_
    refine a_iload_n cx dX3_belongs_33 rfl ?_
    refine a_iadd cx dX3_belongs_34 ?_
    refine a_iload_n cx dX3_belongs_35 rfl ?_
    refine m_iast cx (i := 0) (by decide) dX3_belongs_36 hm (ix3 _) (show _ < 93 from by omega) (fun h hm => ?_)
    exact a_vret cx hq dX3_belongs_37 ⟨_, ⟨rfl, (by rw [ma_ma]; rfl)⟩, hm⟩ (Nat.zero_le _) (Nat.zero_le _)
  refine a_icmp_ne cx (tgt := 24) dX3_belongs_17 (by decide) (fun c17 => ?_) (fun c17 => ?_)
  · have r : (σ.2 1) 5 + 1 = (σ.2 1) 5 + (if (σ.2 1) (63 + i) = v then 0 else 1) := by rw [if_neg c17]
    refine a_iconst cx (v := 1) dX3_belongs_24 (by decide) ?_
    refine a_iadd cx dX3_belongs_25 ?_
    exact J _ r
  · have r : (σ.2 1) 5 + 0 = (σ.2 1) 5 + (if (σ.2 1) (63 + i) = v then 0 else 1) := by rw [if_pos c17]
    refine a_iconst cx (v := 0) dX3_belongs_20 (by decide) ?_
    refine a_goto cx (tgt := 25) dX3_belongs_21 (by decide) ?_
    refine a_iadd cx dX3_belongs_25 ?_
    exact J _ r
abbrev rm_X3_middle : Room := { frames := 1, cells := 0, slots := 0, locals := 23 }
set_option maxHeartbeats 4000000 in
theorem k3_middle {l : Launch} {g : GP} {ad : Nat → Nat} {σ : MS} (htr : l.stackTraces = false) {u : Int32} {row : Nat} (hrow : row < 64) (hw : WS (σ.2 1)) (hne : wt (σ.2 1) u (nS (σ.2 1)) ≠ 0) : MKi l g ad yX3_middle cX3_middle 5 (some .int) rm_X3_middle σ [.int u, .int (nI row)] (mid (σ.2 1) u row) (σ) := by
  refine MK.of (by decide +kernel) htr (Nat.le_of_ble_eq_true rfl) (L0 := [some (.ref (ad 0)), some (.int u), some (.int (nI row)), none, none]) rfl ?_
  intro M h0 h cx _ hq hm
  obtain ⟨hw1, hw2, hw3, hw4⟩ := id hw
  refine a_iconst cx (v := 0) dX3_middle_0 (by decide) ?_
  refine a_istore_n cx dX3_middle_1 (Nat.le_of_ble_eq_true rfl) rfl ?_
  refine a_iconst cx (v := 0) dX3_middle_2 (by decide) ?_
  refine a_istore cx dX3_middle_3 (Nat.le_of_ble_eq_true rfl) rfl ?_
  have loop : ∀ (j k : Nat) (h : AH), k ≤ nS (σ.2 1) → nS (σ.2 1) < k + j → MSt g ad h0 (σ) h → AW g M 0 0 5 [some (.ref (ad 0)), some (.int u), some (.int (nI row)), some (.int (msum (σ.2 1) u row k)), some (.int (nI k))] [] h := by
    intro j
    induction j with
    | zero => intro k h h1 h2; omega
    | succ j ih =>
      intro k h h1 h2 hm
      refine a_iload cx dX3_middle_5 rfl ?_
      refine a_aload_n cx dX3_middle_7 rfl ?_
      refine a_get cx fl_X3_7.g dX3_middle_8 hm.o rfl ?_
      refine a_iconst cx (v := 0) dX3_middle_11 (by decide) ?_
      refine a_iald cx dX3_middle_12 hm.a1 (show (0 : Int32) = nI 0 from rfl) (by omega) (by decide) ?_
      refine AW.topi hw1 ?_
      refine a_icmp_ge cx (tgt := 63) dX3_middle_13 (by decide) (fun c13 => ?_) (fun c13 => ?_)
      · have d13 := le_nI c13 (by omega) (by omega)
        have e13 : k = nS (σ.2 1) := by omega
        subst e13
        refine a_iload_n cx dX3_middle_63 rfl ?_
        refine a_aload_n cx dX3_middle_64 rfl ?_
        refine a_iload_n cx dX3_middle_65 rfl ?_
        refine m_calli cx (k3_weights cx.htr hw) (lw_V q2177 q2179 qs48 q87 q2180) dn_X3_weights (RN.of rfl rfl rfl rfl) rfl hm rfl rfl (Nat.le_of_ble_eq_true rfl) dX3_middle_66 (Nat.zero_le _) (Nat.zero_le _) (fun h hm => ?_)
        refine a_idiv cx dX3_middle_69 hne ?_
        exact a_iret cx hq dX3_middle_70 ⟨_, ⟨rfl, rfl⟩, hm⟩ (Nat.zero_le _) (Nat.zero_le _)
      · have d13 := nle_nI c13 (by omega) (by omega)
        refine a_iload_n cx dX3_middle_16 rfl ?_
        refine a_aload_n cx dX3_middle_17 rfl ?_
        refine a_get cx fl_X3_7.g dX3_middle_18 hm.o rfl ?_
        refine a_bipush cx (v := 63) dX3_middle_21 (by decide) ?_
        refine a_iload cx dX3_middle_23 rfl ?_
        refine a_iadd cx dX3_middle_25 ?_
        refine a_iald cx dX3_middle_26 hm.a1 (ix3 _) (by omega) (by decide) ?_
        refine a_iload_n cx dX3_middle_27 rfl ?_
        refine a_icmp_ne cx (tgt := 54) dX3_middle_28 (by decide) (fun c28 => ?_) (fun c28 => ?_)
        · have r : msum (σ.2 1) u row k + 0 = msum (σ.2 1) u row (k + 1) := by rw [msum, if_neg c28]
          refine a_iconst cx (v := 0) dX3_middle_54 (by decide) ?_
          refine a_iadd cx dX3_middle_55 ?_
          refine AW.topi r ?_
          refine a_istore_n cx dX3_middle_56 (Nat.le_of_ble_eq_true rfl) rfl ?_
          refine a_iincN cx dX3_middle_57 rfl (Nat.le_of_ble_eq_true rfl) rfl ?_
          refine a_goto cx (tgt := 5) dX3_middle_60 (by decide) ?_
          exact ih (k + 1) h (by omega) (by omega) hm
        · have r : msum (σ.2 1) u row k + (σ.2 1) (45 + k) * (σ.2 1) (row + k) = msum (σ.2 1) u row (k + 1) := by rw [msum, if_pos c28]
          refine a_aload_n cx dX3_middle_31 rfl ?_
          refine a_get cx fl_X3_7.g dX3_middle_32 hm.o rfl ?_
          refine a_bipush cx (v := 45) dX3_middle_35 (by decide) ?_
          refine a_iload cx dX3_middle_37 rfl ?_
          refine a_iadd cx dX3_middle_39 ?_
          refine a_iald cx dX3_middle_40 hm.a1 (ix2 _) (by omega) (by decide) ?_
          refine a_aload_n cx dX3_middle_41 rfl ?_
          refine a_get cx fl_X3_7.g dX3_middle_42 hm.o rfl ?_
          refine a_iload_n cx dX3_middle_45 rfl ?_
          refine a_iload cx dX3_middle_46 rfl ?_
          refine a_iadd cx dX3_middle_48 ?_
          refine a_iald cx dX3_middle_49 hm.a1 (nI_add row k) (by omega) (by decide) ?_
          refine a_imul cx dX3_middle_50 ?_
          refine a_goto cx (tgt := 55) dX3_middle_51 (by decide) ?_
          refine a_iadd cx dX3_middle_55 ?_
          refine AW.topi r ?_
          refine a_istore_n cx dX3_middle_56 (Nat.le_of_ble_eq_true rfl) rfl ?_
          refine a_iincN cx dX3_middle_57 rfl (Nat.le_of_ble_eq_true rfl) rfl ?_
          refine a_goto cx (tgt := 5) dX3_middle_60 (by decide) ?_
          exact ih (k + 1) h (by omega) (by omega) hm
  exact loop (nS (σ.2 1) + 1 - 0) 0 h (by omega) (by omega) hm
abbrev rm_X3_outlier : Room := { frames := 3, cells := 0, slots := 0, locals := 65 }
set_option maxHeartbeats 4000000 in
theorem k3_outlier {l : Launch} {g : GP} {ad : Nat → Nat} {σ : MS} (htr : l.stackTraces = false) (hw : WS (σ.2 1)) (hO : ∀ k, k < nS (σ.2 1) → isO ((σ.2 1) (63 + k)) (nH (σ.2 1))) : MKi l g ad yX3_outlier cX3_outlier 6 (some .int) rm_X3_outlier σ [] (oI (outl (σ.2 1))) (σ) := by
  refine MK.of (by decide +kernel) htr (Nat.le_of_ble_eq_true rfl) (L0 := [some (.ref (ad 0)), none, none, none, none, none]) rfl ?_
  intro M h0 h cx _ hq hm
  obtain ⟨hw1, hw2, hw3, hw4⟩ := id hw
  refine a_iconst cx (v := -1) dX3_outlier_0 (by decide) ?_
  refine a_istore_n cx dX3_outlier_1 (Nat.le_of_ble_eq_true rfl) rfl ?_
  refine a_iconst cx (v := 0) dX3_outlier_2 (by decide) ?_
  refine a_istore_n cx dX3_outlier_3 (Nat.le_of_ble_eq_true rfl) rfl ?_
  refine a_iconst cx (v := 0) dX3_outlier_4 (by decide) ?_
  refine a_istore_n cx dX3_outlier_5 (Nat.le_of_ble_eq_true rfl) rfl ?_
  have loop : ∀ (j k : Nat) (h : AH), k ≤ nS (σ.2 1) → nS (σ.2 1) < k + j → MSt g ad h0 (σ) h → AW g M 0 0 6 [some (.ref (ad 0)), some (.int (oI (ol (σ.2 1) k).1)), some (.int (ol (σ.2 1) k).2), some (.int (nI k)), none, none] [] h := by
    intro j
    induction j with
    | zero => intro k h h1 h2; omega
    | succ j ih =>
      intro k h h1 h2 hm
      refine a_iload_n cx dX3_outlier_6 rfl ?_
      refine a_aload_n cx dX3_outlier_7 rfl ?_
      refine a_get cx fl_X3_7.g dX3_outlier_8 hm.o rfl ?_
      refine a_iconst cx (v := 0) dX3_outlier_11 (by decide) ?_
      refine a_iald cx dX3_outlier_12 hm.a1 (show (0 : Int32) = nI 0 from rfl) (by omega) (by decide) ?_
      refine AW.topi hw1 ?_
      refine a_icmp_ge cx (tgt := 87) dX3_outlier_13 (by decide) (fun c13 => ?_) (fun c13 => ?_)
      · have d13 := le_nI c13 (by omega) (by omega)
        have e13 : k = nS (σ.2 1) := by omega
        subst e13
        refine a_iload_n cx dX3_outlier_87 rfl ?_
        exact a_iret cx hq dX3_outlier_88 ⟨_, ⟨rfl, rfl⟩, hm⟩ (Nat.zero_le _) (Nat.zero_le _)
      · have d13 := nle_nI c13 (by omega) (by omega)
        refine a_aload_n cx dX3_outlier_16 rfl ?_
        refine a_get cx fl_X3_7.g dX3_outlier_17 hm.o rfl ?_
        refine a_bipush cx (v := 63) dX3_outlier_20 (by decide) ?_
        refine a_iload_n cx dX3_outlier_22 rfl ?_
        refine a_iadd cx dX3_outlier_23 ?_
        refine a_iald cx dX3_outlier_24 hm.a1 (ix3 _) (by omega) (by decide) ?_
        refine a_istore cx dX3_outlier_25 (Nat.le_of_ble_eq_true rfl) rfl ?_
        refine a_iload cx dX3_outlier_27 rfl ?_
        refine a_iconst cx (v := -1) dX3_outlier_29 (by decide) ?_
        have J : ∀ (z u : Int32) (h : AH), MSt g ad h0 σ h → z = wfar (σ.2 1) k → AW g M 0 0 54 [some (.ref (ad 0)), some (.int (oI (ol (σ.2 1) k).1)), some (.int (ol (σ.2 1) k).2), some (.int (nI k)), some (.int u), none] [.int z] h := by
          intro z u h hm ez
          subst ez
          refine a_istore cx dX3_outlier_54 (Nat.le_of_ble_eq_true rfl) rfl ?_
          refine a_iload cx dX3_outlier_56 rfl ?_
          refine a_iload_n cx dX3_outlier_58 rfl ?_
          refine a_icmp_le cx (tgt := 66) dX3_outlier_59 (by decide) (fun c59 => ?_) (fun c59 => ?_)
          · have hle : ¬ (ol (σ.2 1) k).2 < wfar (σ.2 1) k := Int32.not_lt.mpr c59
            have r1 : ol (σ.2 1) (k + 1) = ol (σ.2 1) k := by rw [ol, if_neg hle]
            refine a_iload_n cx dX3_outlier_66 rfl ?_
            refine a_istore_n cx dX3_outlier_67 (Nat.le_of_ble_eq_true rfl) rfl ?_
            refine a_iload cx dX3_outlier_68 rfl ?_
            refine a_iload_n cx dX3_outlier_70 rfl ?_
            refine a_icmp_le cx (tgt := 79) dX3_outlier_71 (by decide) (fun c71 => ?_) (fun c71 => ?_)
            · refine a_iload_n cx dX3_outlier_79 rfl ?_
              refine a_istore_n cx dX3_outlier_80 (Nat.le_of_ble_eq_true rfl) rfl ?_
              refine a_iincN cx dX3_outlier_81 rfl (Nat.le_of_ble_eq_true rfl) rfl ?_
              refine a_goto cx (tgt := 6) dX3_outlier_84 (by decide) ?_
              have q9 := ih (k + 1) h (by omega) (by omega) hm
              rw [r1] at q9
              exact q9.loc (by exact ⟨rfl, rfl, rfl, rfl, trivial⟩)
            · exact absurd c59 c71
          · have hlt := Int32.not_le.mp c59
            have r1 : ol (σ.2 1) (k + 1) = (some k, wfar (σ.2 1) k) := by rw [ol, if_pos hlt]
            refine a_iload_n cx dX3_outlier_62 rfl ?_
            refine a_goto cx (tgt := 67) dX3_outlier_63 (by decide) ?_
            refine a_istore_n cx dX3_outlier_67 (Nat.le_of_ble_eq_true rfl) rfl ?_
            refine a_iload cx dX3_outlier_68 rfl ?_
            refine a_iload_n cx dX3_outlier_70 rfl ?_
            refine a_icmp_le cx (tgt := 79) dX3_outlier_71 (by decide) (fun c71 => ?_) (fun c71 => ?_)
            · exact absurd c71 c59
            · refine a_iload cx dX3_outlier_74 rfl ?_
              refine a_goto cx (tgt := 80) dX3_outlier_76 (by decide) ?_
              refine a_istore_n cx dX3_outlier_80 (Nat.le_of_ble_eq_true rfl) rfl ?_
              refine a_iincN cx dX3_outlier_81 rfl (Nat.le_of_ble_eq_true rfl) rfl ?_
              refine a_goto cx (tgt := 6) dX3_outlier_84 (by decide) ?_
              have q9 := ih (k + 1) h (by omega) (by omega) hm
              rw [r1] at q9
              exact q9.loc (by exact ⟨rfl, rfl, rfl, rfl, trivial⟩)
        refine a_icmp_ne cx (tgt := 37) dX3_outlier_30 (by decide) (fun c30 => ?_) (fun c30 => ?_)
        · obtain ⟨j9, hj9, ej9⟩ := (hO k (by omega)).ix c30
          have r : (σ.2 1) (45 + k) * far (σ.2 1) k j9 = wfar (σ.2 1) k := by unfold wfar; rw [if_neg c30, ej9, oN_nI (by omega)]
          refine a_aload_n cx dX3_outlier_37 rfl ?_
          refine a_get cx fl_X3_7.g dX3_outlier_38 hm.o rfl ?_
          refine a_bipush cx (v := 45) dX3_outlier_41 (by decide) ?_
          refine a_iload_n cx dX3_outlier_43 rfl ?_
          refine a_iadd cx dX3_outlier_44 ?_
          refine a_iald cx dX3_outlier_45 hm.a1 (ix2 _) (by omega) (by decide) ?_
          refine a_aload_n cx dX3_outlier_46 rfl ?_
          refine a_iload_n cx dX3_outlier_47 rfl ?_
          refine a_iload cx dX3_outlier_48 rfl ?_
          refine AW.topi ej9 ?_
          refine m_calli cx (k3_far cx.htr (by omega) (by omega)) (lw_V q2161 q2163 qs45 q87 q2164) dn_X3_far (RN.of rfl rfl rfl rfl) rfl hm rfl rfl (Nat.le_of_ble_eq_true rfl) dX3_outlier_50 (Nat.zero_le _) (Nat.zero_le _) (fun h hm => ?_)
          refine a_imul cx dX3_outlier_53 ?_
          exact J _ _ h hm r
        · have r : (0 : Int32) = wfar (σ.2 1) k := by unfold wfar; rw [if_pos c30]
          refine a_iconst cx (v := 0) dX3_outlier_33 (by decide) ?_
          refine a_goto cx (tgt := 54) dX3_outlier_34 (by decide) ?_
          exact J _ _ h hm r
  exact loop (nS (σ.2 1) + 1 - 0) 0 h (by omega) (by omega) hm
