/-! ORDERS -/
set_option maxRecDepth 100000
abbrev rm_X6_init : Room := { frames := 1, cells := 0, slots := 0, locals := 20 }
set_option maxHeartbeats 4000000 in
theorem f6_init {lx : Launch} {g : GP} {h : AH} (htr : lx.stackTraces = false) {o w p : Nat} (h1 : h o = some (eO 5 [.null, .null])) (hB : gB g ≤ o) : KT lx g yX6_init (ws_ yX6_init cX6_init 3 none) rm_X6_init 0 0 [.ref o, .ref w, .ref p] h (fun v h' => v = none ∧ h' = hset h o (eO 5 [.ref w, .ref p])) (noX) := by
  refine KT.of (by decide +kernel) htr (Nat.le_of_ble_eq_true rfl) (L0 := [some (.ref o), some (.ref w), some (.ref p)]) rfl ?_
  intro M cx hl9 hq hin hnx
  refine a_aload_n cx dX6_init_0 rfl ?_
  refine a_objInit cx q1060 q124 q125 dX6_init_1 (Nat.le_of_ble_eq_true rfl) (Nat.le_of_ble_eq_true rfl) ?_
  refine a_aload_n cx dX6_init_4 rfl ?_
  refine a_aload_n cx dX6_init_5 rfl ?_
  refine a_putF cx (hin.trans rfl) fl_X6_9 dX6_init_6 h1 hB rfl rfl (by exact (Nat.le_of_ble_eq_true rfl)) ?_
  refine a_aload_n cx dX6_init_9 rfl ?_
  refine a_aload_n cx dX6_init_10 rfl ?_
  refine a_putF cx (hin.trans rfl) fl_X6_15 dX6_init_11 (hset_s _ _ _) hB rfl rfl (by exact (Nat.le_of_ble_eq_true rfl)) ?_
  exact a_vret cx hq dX6_init_14 ⟨rfl, by rw [hset_hset]; rfl⟩ (Nat.le_of_ble_eq_true rfl) (Nat.le_of_ble_eq_true rfl)
/-- how many numbers behind a word -/
def nmO (s : List Nat) : Int32 := if s = ltr 8 then 0 else if s = ltr 4 ∨ s = ltr 5 ∨ s = ltr 9 ∨ s = ltr 11 then 1 else if s = ltr 3 ∨ s = ltr 10 then 2 else if s = ltr 2 ∨ s = ltr 6 then 3 else -1
theorem ltr12_len : (ltr 12).length = 52 := by decide +kernel
theorem StrAt.up {g : GP} {h h' : AH} {a : Nat} {s : List Nat} (hS : StrAt g h a s) (hs : sub h h') : StrAt g h' a s := by
  obtain ⟨b, x, y, h1, h2, h3⟩ := hS
  exact ⟨b, x, y, hs _ _ h1, hs _ _ h2, h3⟩
theorem asc_2 {t : Nat} (ht : t < 14) : asc (ltr t) := asc_ltr t ht
theorem StrAt.of {g : GP} {h : AH} {a b : Nat} {s : List Nat} (ha : h a = some (eO 15 [.ref b, .int 0, .int (shash s), .int (zf s)])) (hb : h b = some (eI (g.2.1 1) s.length (sCh s))) : StrAt g h a s := ⟨b, shash s, zf s, ha, hb, Or.inr ⟨rfl, rfl⟩⟩
theorem nm_none {s : List Nat} (h : ∀ t, t < 12 → 2 ≤ t → t ≠ 7 → s ≠ ltr t) : nmO s = -1 := by
  unfold nmO
  rw [if_neg (h 8 (by omega) (by omega) (by omega)), if_neg, if_neg, if_neg]
  · rintro (z | z)
    · exact h 2 (by omega) (by omega) (by omega) z
    · exact h 6 (by omega) (by omega) (by omega) z
  · rintro (z | z)
    · exact h 3 (by omega) (by omega) (by omega) z
    · exact h 10 (by omega) (by omega) (by omega) z
  · rintro (z | z | z | z)
    · exact h 4 (by omega) (by omega) (by omega) z
    · exact h 5 (by omega) (by omega) (by omega) z
    · exact h 9 (by omega) (by omega) (by omega) z
    · exact h 11 (by omega) (by omega) (by omega) z
abbrev rm_X6_numbers : Room := { frames := 6, cells := 0, slots := 0, locals := 141 }
set_option maxHeartbeats 4000000 in
theorem f6_numbers {lx : Launch} {g : GP} {h : AH} (htr : lx.stackTraces = false) {a b : Nat} {s : List Nat} {hs hz0 : Int32} (ha : h a = some (eO 15 [.ref b, .int 0, .int hs, .int hz0])) (hb : h b = some (eI (g.2.1 1) s.length (sCh s))) (has_ : asc s) (hh : (hs = 0 ∧ hz0 = 0 ∧ gB g ≤ a) ∨ (hs = shash s ∧ hz0 = zf s)) : KT lx g yX6_numbers (ws_ yX6_numbers cX6_numbers 3 (some .int)) rm_X6_numbers 0 0 [.ref a] h (fun v h' => v = some (.int (nmO s)) ∧ h' = hset h a (eO 15 [.ref b, .int 0, .int (shash s), .int (zf s)])) (noX) := by
  refine KT.of (by decide +kernel) htr (Nat.le_of_ble_eq_true rfl) (L0 := [some (.ref a), none, none]) rfl ?_
  intro M cx hl9 hq hin hnx
  refine a_aload_n cx dX6_numbers_0 rfl ?_
  refine a_astore_n cx dX6_numbers_1 (Nat.le_of_ble_eq_true rfl) rfl ?_
  refine a_iconst cx (v := -1) dX6_numbers_2 (by decide) ?_
  refine a_istore_n cx dX6_numbers_3 (Nat.le_of_ble_eq_true rfl) rfl ?_
  refine a_aload_n cx dX6_numbers_4 rfl ?_
  refine c_V cx (j6_hashCode cx.htr ha hb has_ hh) (lw_V q1072 q1073 q1074 q85 q1075) dn_J6_hashCode (RN.of rfl rfl rfl rfl) rfl ha rfl rfl rfl (Nat.le_of_ble_eq_true rfl) dX6_numbers_5 (Nat.le_of_ble_eq_true rfl) (Nat.le_of_ble_eq_true rfl) (pK ?_) (fun E9 q9 h9 hx9 => hx9.elim)
  have hT : StrAt g (hset h a (eO 15 [.ref b, .int 0, .int (shash s), .int (zf s)])) a s := StrAt.of (hset_s _ _ _) ((hset_n (fun z => by rw [z, ha] at hb; cases hb)).trans hb)
  refine AW.hk fun hk8 => ?_
  by_cases e8_0 : shash s = -905768629
  · refine AW.topi e8_0 ?_
    refine a_lookup cx (off := 126) (tgt := 134) dX6_numbers_8 (by decide) (by decide +kernel) (by decide) ?_
    refine a_aload_n cx dX6_numbers_134 rfl ?_
    refine a_ldcS cx (cx.hG.str (t := 9) (by decide +kernel)) dX6_numbers_135 ?_
    refine c_V cx (j6_equals cx.htr hT (hk8.2.str (t := 9) (by omega)) has_ (asc_ltr 9 (by omega))) (lw_V q1134 q1135 q1136 q85 q1137) dn_J6_equals (RN.of rfl rfl rfl rfl) rfl (hset_s _ _ _) rfl rfl rfl (Nat.le_of_ble_eq_true rfl) dX6_numbers_137 (Nat.le_of_ble_eq_true rfl) (Nat.le_of_ble_eq_true rfl) (pK ?_) (fun E9 q9 h9 hx9 => hx9.elim)
    refine a_if_eq cx (tgt := 218) dX6_numbers_140 (by decide) (fun c140 => ?_) (fun c140 => ?_)
    · have hne : s ≠ ltr 9 := of_decide_eq_false ((bI_0 _).mp c140)
      have hz : nmO s = -1 := by
        have key : ∀ t, t < 12 → 2 ≤ t → t ≠ 7 → t ≠ 9 → ¬ shash (ltr t) = -905768629 := by decide +kernel
        have h9 : ∀ t, t < 12 → 2 ≤ t → t ≠ 7 → s ≠ ltr t := fun t h1 h2 h7 z => by
          by_cases e : t = 9
          · subst e; exact hne z
          · exact key t h1 h2 h7 e (by rw [← z]; exact e8_0)
        exact nm_none h9
      refine a_iload_n cx dX6_numbers_218 rfl ?_
      refine a_tabOut cx (tgt := 276) dX6_numbers_219 (Or.inl (by decide)) (by decide) ?_
      refine a_iconst cx (v := -1) dX6_numbers_276 (by decide) ?_
      exact a_iret cx hq dX6_numbers_277 ⟨by rw [hz], rfl⟩ (Nat.le_of_ble_eq_true rfl) (Nat.le_of_ble_eq_true rfl)
    · have heq : s = ltr 9 := of_decide_eq_true (bI_n0 c140)
      have hz : nmO s = 1 := by rw [heq]; decide +kernel
      refine a_iconst cx (v := 3) dX6_numbers_143 (by decide) ?_
      refine a_istore_n cx dX6_numbers_144 (Nat.le_of_ble_eq_true rfl) rfl ?_
      refine a_goto cx (tgt := 218) dX6_numbers_145 (by decide) ?_
      refine a_iload_n cx dX6_numbers_218 rfl ?_
      refine a_tabIn cx (tgt := 270) dX6_numbers_219 (by decide) (by decide) rfl (by decide) ?_
      refine a_iconst cx (v := 1) dX6_numbers_270 (by decide) ?_
      exact a_iret cx hq dX6_numbers_271 ⟨by rw [hz], rfl⟩ (Nat.le_of_ble_eq_true rfl) (Nat.le_of_ble_eq_true rfl)
  by_cases e8_1 : shash s = -891985998
  · refine AW.topi e8_1 ?_
    refine a_lookup cx (off := 112) (tgt := 120) dX6_numbers_8 (by decide) (by decide +kernel) (by decide) ?_
    refine a_aload_n cx dX6_numbers_120 rfl ?_
    refine a_ldcS cx (cx.hG.str (t := 5) (by decide +kernel)) dX6_numbers_121 ?_
    refine c_V cx (j6_equals cx.htr hT (hk8.2.str (t := 5) (by omega)) has_ (asc_ltr 5 (by omega))) (lw_V q1134 q1135 q1136 q85 q1137) dn_J6_equals (RN.of rfl rfl rfl rfl) rfl (hset_s _ _ _) rfl rfl rfl (Nat.le_of_ble_eq_true rfl) dX6_numbers_123 (Nat.le_of_ble_eq_true rfl) (Nat.le_of_ble_eq_true rfl) (pK ?_) (fun E9 q9 h9 hx9 => hx9.elim)
    refine a_if_eq cx (tgt := 218) dX6_numbers_126 (by decide) (fun c126 => ?_) (fun c126 => ?_)
    · have hne : s ≠ ltr 5 := of_decide_eq_false ((bI_0 _).mp c126)
      have hz : nmO s = -1 := by
        have key : ∀ t, t < 12 → 2 ≤ t → t ≠ 7 → t ≠ 5 → ¬ shash (ltr t) = -891985998 := by decide +kernel
        have h9 : ∀ t, t < 12 → 2 ≤ t → t ≠ 7 → s ≠ ltr t := fun t h1 h2 h7 z => by
          by_cases e : t = 5
          · subst e; exact hne z
          · exact key t h1 h2 h7 e (by rw [← z]; exact e8_1)
        exact nm_none h9
      refine a_iload_n cx dX6_numbers_218 rfl ?_
      refine a_tabOut cx (tgt := 276) dX6_numbers_219 (Or.inl (by decide)) (by decide) ?_
      refine a_iconst cx (v := -1) dX6_numbers_276 (by decide) ?_
      exact a_iret cx hq dX6_numbers_277 ⟨by rw [hz], rfl⟩ (Nat.le_of_ble_eq_true rfl) (Nat.le_of_ble_eq_true rfl)
    · have heq : s = ltr 5 := of_decide_eq_true (bI_n0 c126)
      have hz : nmO s = 1 := by rw [heq]; decide +kernel
      refine a_iconst cx (v := 2) dX6_numbers_129 (by decide) ?_
      refine a_istore_n cx dX6_numbers_130 (Nat.le_of_ble_eq_true rfl) rfl ?_
      refine a_goto cx (tgt := 218) dX6_numbers_131 (by decide) ?_
      refine a_iload_n cx dX6_numbers_218 rfl ?_
      refine a_tabIn cx (tgt := 270) dX6_numbers_219 (by decide) (by decide) rfl (by decide) ?_
      refine a_iconst cx (v := 1) dX6_numbers_270 (by decide) ?_
      exact a_iret cx hq dX6_numbers_271 ⟨by rw [hz], rfl⟩ (Nat.le_of_ble_eq_true rfl) (Nat.le_of_ble_eq_true rfl)
  by_cases e8_2 : shash s = 99644
  · refine AW.topi e8_2 ?_
    refine a_lookup cx (off := 168) (tgt := 176) dX6_numbers_8 (by decide) (by decide +kernel) (by decide) ?_
    refine a_aload_n cx dX6_numbers_176 rfl ?_
    refine a_ldcS cx (cx.hG.str (t := 10) (by decide +kernel)) dX6_numbers_177 ?_
    refine c_V cx (j6_equals cx.htr hT (hk8.2.str (t := 10) (by omega)) has_ (asc_ltr 10 (by omega))) (lw_V q1134 q1135 q1136 q85 q1137) dn_J6_equals (RN.of rfl rfl rfl rfl) rfl (hset_s _ _ _) rfl rfl rfl (Nat.le_of_ble_eq_true rfl) dX6_numbers_179 (Nat.le_of_ble_eq_true rfl) (Nat.le_of_ble_eq_true rfl) (pK ?_) (fun E9 q9 h9 hx9 => hx9.elim)
    refine a_if_eq cx (tgt := 218) dX6_numbers_182 (by decide) (fun c182 => ?_) (fun c182 => ?_)
    · have hne : s ≠ ltr 10 := of_decide_eq_false ((bI_0 _).mp c182)
      have hz : nmO s = -1 := by
        have key : ∀ t, t < 12 → 2 ≤ t → t ≠ 7 → t ≠ 10 → ¬ shash (ltr t) = 99644 := by decide +kernel
        have h9 : ∀ t, t < 12 → 2 ≤ t → t ≠ 7 → s ≠ ltr t := fun t h1 h2 h7 z => by
          by_cases e : t = 10
          · subst e; exact hne z
          · exact key t h1 h2 h7 e (by rw [← z]; exact e8_2)
        exact nm_none h9
      refine a_iload_n cx dX6_numbers_218 rfl ?_
      refine a_tabOut cx (tgt := 276) dX6_numbers_219 (Or.inl (by decide)) (by decide) ?_
      refine a_iconst cx (v := -1) dX6_numbers_276 (by decide) ?_
      exact a_iret cx hq dX6_numbers_277 ⟨by rw [hz], rfl⟩ (Nat.le_of_ble_eq_true rfl) (Nat.le_of_ble_eq_true rfl)
    · have heq : s = ltr 10 := of_decide_eq_true (bI_n0 c182)
      have hz : nmO s = 2 := by rw [heq]; decide +kernel
      refine a_bipush cx (v := 6) dX6_numbers_185 (by decide) ?_
      refine a_istore_n cx dX6_numbers_187 (Nat.le_of_ble_eq_true rfl) rfl ?_
      refine a_goto cx (tgt := 218) dX6_numbers_188 (by decide) ?_
      refine a_iload_n cx dX6_numbers_218 rfl ?_
      refine a_tabIn cx (tgt := 272) dX6_numbers_219 (by decide) (by decide) rfl (by decide) ?_
      refine a_iconst cx (v := 2) dX6_numbers_272 (by decide) ?_
      exact a_iret cx hq dX6_numbers_273 ⟨by rw [hz], rfl⟩ (Nat.le_of_ble_eq_true rfl) (Nat.le_of_ble_eq_true rfl)
  by_cases e8_3 : shash s = 103687
  · refine AW.topi e8_3 ?_
    refine a_lookup cx (off := 154) (tgt := 162) dX6_numbers_8 (by decide) (by decide +kernel) (by decide) ?_
    refine a_aload_n cx dX6_numbers_162 rfl ?_
    refine a_ldcS cx (cx.hG.str (t := 3) (by decide +kernel)) dX6_numbers_163 ?_
    refine c_V cx (j6_equals cx.htr hT (hk8.2.str (t := 3) (by omega)) has_ (asc_ltr 3 (by omega))) (lw_V q1134 q1135 q1136 q85 q1137) dn_J6_equals (RN.of rfl rfl rfl rfl) rfl (hset_s _ _ _) rfl rfl rfl (Nat.le_of_ble_eq_true rfl) dX6_numbers_165 (Nat.le_of_ble_eq_true rfl) (Nat.le_of_ble_eq_true rfl) (pK ?_) (fun E9 q9 h9 hx9 => hx9.elim)
    refine a_if_eq cx (tgt := 218) dX6_numbers_168 (by decide) (fun c168 => ?_) (fun c168 => ?_)
    · have hne : s ≠ ltr 3 := of_decide_eq_false ((bI_0 _).mp c168)
      have hz : nmO s = -1 := by
        have key : ∀ t, t < 12 → 2 ≤ t → t ≠ 7 → t ≠ 3 → ¬ shash (ltr t) = 103687 := by decide +kernel
        have h9 : ∀ t, t < 12 → 2 ≤ t → t ≠ 7 → s ≠ ltr t := fun t h1 h2 h7 z => by
          by_cases e : t = 3
          · subst e; exact hne z
          · exact key t h1 h2 h7 e (by rw [← z]; exact e8_3)
        exact nm_none h9
      refine a_iload_n cx dX6_numbers_218 rfl ?_
      refine a_tabOut cx (tgt := 276) dX6_numbers_219 (Or.inl (by decide)) (by decide) ?_
      refine a_iconst cx (v := -1) dX6_numbers_276 (by decide) ?_
      exact a_iret cx hq dX6_numbers_277 ⟨by rw [hz], rfl⟩ (Nat.le_of_ble_eq_true rfl) (Nat.le_of_ble_eq_true rfl)
    · have heq : s = ltr 3 := of_decide_eq_true (bI_n0 c168)
      have hz : nmO s = 2 := by rw [heq]; decide +kernel
      refine a_iconst cx (v := 5) dX6_numbers_171 (by decide) ?_
      refine a_istore_n cx dX6_numbers_172 (Nat.le_of_ble_eq_true rfl) rfl ?_
      refine a_goto cx (tgt := 218) dX6_numbers_173 (by decide) ?_
      refine a_iload_n cx dX6_numbers_218 rfl ?_
      refine a_tabIn cx (tgt := 272) dX6_numbers_219 (by decide) (by decide) rfl (by decide) ?_
      refine a_iconst cx (v := 2) dX6_numbers_272 (by decide) ?_
      exact a_iret cx hq dX6_numbers_273 ⟨by rw [hz], rfl⟩ (Nat.le_of_ble_eq_true rfl) (Nat.le_of_ble_eq_true rfl)
  by_cases e8_4 : shash s = 3357649
  · refine AW.topi e8_4 ?_
    refine a_lookup cx (off := 198) (tgt := 206) dX6_numbers_8 (by decide) (by decide +kernel) (by decide) ?_
    refine a_aload_n cx dX6_numbers_206 rfl ?_
    refine a_ldcS cx (cx.hG.str (t := 6) (by decide +kernel)) dX6_numbers_207 ?_
    refine c_V cx (j6_equals cx.htr hT (hk8.2.str (t := 6) (by omega)) has_ (asc_ltr 6 (by omega))) (lw_V q1134 q1135 q1136 q85 q1137) dn_J6_equals (RN.of rfl rfl rfl rfl) rfl (hset_s _ _ _) rfl rfl rfl (Nat.le_of_ble_eq_true rfl) dX6_numbers_209 (Nat.le_of_ble_eq_true rfl) (Nat.le_of_ble_eq_true rfl) (pK ?_) (fun E9 q9 h9 hx9 => hx9.elim)
    refine a_if_eq cx (tgt := 218) dX6_numbers_212 (by decide) (fun c212 => ?_) (fun c212 => ?_)
    · have hne : s ≠ ltr 6 := of_decide_eq_false ((bI_0 _).mp c212)
      have hz : nmO s = -1 := by
        have key : ∀ t, t < 12 → 2 ≤ t → t ≠ 7 → t ≠ 6 → ¬ shash (ltr t) = 3357649 := by decide +kernel
        have h9 : ∀ t, t < 12 → 2 ≤ t → t ≠ 7 → s ≠ ltr t := fun t h1 h2 h7 z => by
          by_cases e : t = 6
          · subst e; exact hne z
          · exact key t h1 h2 h7 e (by rw [← z]; exact e8_4)
        exact nm_none h9
      refine a_iload_n cx dX6_numbers_218 rfl ?_
      refine a_tabOut cx (tgt := 276) dX6_numbers_219 (Or.inl (by decide)) (by decide) ?_
      refine a_iconst cx (v := -1) dX6_numbers_276 (by decide) ?_
      exact a_iret cx hq dX6_numbers_277 ⟨by rw [hz], rfl⟩ (Nat.le_of_ble_eq_true rfl) (Nat.le_of_ble_eq_true rfl)
    · have heq : s = ltr 6 := of_decide_eq_true (bI_n0 c212)
      have hz : nmO s = 3 := by rw [heq]; decide +kernel
      refine a_bipush cx (v := 8) dX6_numbers_215 (by decide) ?_
      refine a_istore_n cx dX6_numbers_217 (Nat.le_of_ble_eq_true rfl) rfl ?_
      refine a_iload_n cx dX6_numbers_218 rfl ?_
      refine a_tabIn cx (tgt := 274) dX6_numbers_219 (by decide) (by decide) rfl (by decide) ?_
      refine a_iconst cx (v := 3) dX6_numbers_274 (by decide) ?_
      exact a_iret cx hq dX6_numbers_275 ⟨by rw [hz], rfl⟩ (Nat.le_of_ble_eq_true rfl) (Nat.le_of_ble_eq_true rfl)
  by_cases e8_5 : shash s = 97322682
  · refine AW.topi e8_5 ?_
    refine a_lookup cx (off := 140) (tgt := 148) dX6_numbers_8 (by decide) (by decide +kernel) (by decide) ?_
    refine a_aload_n cx dX6_numbers_148 rfl ?_
    refine a_ldcS cx (cx.hG.str (t := 11) (by decide +kernel)) dX6_numbers_149 ?_
    refine c_V cx (j6_equals cx.htr hT (hk8.2.str (t := 11) (by omega)) has_ (asc_ltr 11 (by omega))) (lw_V q1134 q1135 q1136 q85 q1137) dn_J6_equals (RN.of rfl rfl rfl rfl) rfl (hset_s _ _ _) rfl rfl rfl (Nat.le_of_ble_eq_true rfl) dX6_numbers_151 (Nat.le_of_ble_eq_true rfl) (Nat.le_of_ble_eq_true rfl) (pK ?_) (fun E9 q9 h9 hx9 => hx9.elim)
    refine a_if_eq cx (tgt := 218) dX6_numbers_154 (by decide) (fun c154 => ?_) (fun c154 => ?_)
    · have hne : s ≠ ltr 11 := of_decide_eq_false ((bI_0 _).mp c154)
      have hz : nmO s = -1 := by
        have key : ∀ t, t < 12 → 2 ≤ t → t ≠ 7 → t ≠ 11 → ¬ shash (ltr t) = 97322682 := by decide +kernel
        have h9 : ∀ t, t < 12 → 2 ≤ t → t ≠ 7 → s ≠ ltr t := fun t h1 h2 h7 z => by
          by_cases e : t = 11
          · subst e; exact hne z
          · exact key t h1 h2 h7 e (by rw [← z]; exact e8_5)
        exact nm_none h9
      refine a_iload_n cx dX6_numbers_218 rfl ?_
      refine a_tabOut cx (tgt := 276) dX6_numbers_219 (Or.inl (by decide)) (by decide) ?_
      refine a_iconst cx (v := -1) dX6_numbers_276 (by decide) ?_
      exact a_iret cx hq dX6_numbers_277 ⟨by rw [hz], rfl⟩ (Nat.le_of_ble_eq_true rfl) (Nat.le_of_ble_eq_true rfl)
    · have heq : s = ltr 11 := of_decide_eq_true (bI_n0 c154)
      have hz : nmO s = 1 := by rw [heq]; decide +kernel
      refine a_iconst cx (v := 4) dX6_numbers_157 (by decide) ?_
      refine a_istore_n cx dX6_numbers_158 (Nat.le_of_ble_eq_true rfl) rfl ?_
      refine a_goto cx (tgt := 218) dX6_numbers_159 (by decide) ?_
      refine a_iload_n cx dX6_numbers_218 rfl ?_
      refine a_tabIn cx (tgt := 270) dX6_numbers_219 (by decide) (by decide) rfl (by decide) ?_
      refine a_iconst cx (v := 1) dX6_numbers_270 (by decide) ?_
      exact a_iret cx hq dX6_numbers_271 ⟨by rw [hz], rfl⟩ (Nat.le_of_ble_eq_true rfl) (Nat.le_of_ble_eq_true rfl)
  by_cases e8_6 : shash s = 102846135
  · refine AW.topi e8_6 ?_
    refine a_lookup cx (off := 98) (tgt := 106) dX6_numbers_8 (by decide) (by decide +kernel) (by decide) ?_
    refine a_aload_n cx dX6_numbers_106 rfl ?_
    refine a_ldcS cx (cx.hG.str (t := 4) (by decide +kernel)) dX6_numbers_107 ?_
    refine c_V cx (j6_equals cx.htr hT (hk8.2.str (t := 4) (by omega)) has_ (asc_ltr 4 (by omega))) (lw_V q1134 q1135 q1136 q85 q1137) dn_J6_equals (RN.of rfl rfl rfl rfl) rfl (hset_s _ _ _) rfl rfl rfl (Nat.le_of_ble_eq_true rfl) dX6_numbers_109 (Nat.le_of_ble_eq_true rfl) (Nat.le_of_ble_eq_true rfl) (pK ?_) (fun E9 q9 h9 hx9 => hx9.elim)
    refine a_if_eq cx (tgt := 218) dX6_numbers_112 (by decide) (fun c112 => ?_) (fun c112 => ?_)
    · have hne : s ≠ ltr 4 := of_decide_eq_false ((bI_0 _).mp c112)
      have hz : nmO s = -1 := by
        have key : ∀ t, t < 12 → 2 ≤ t → t ≠ 7 → t ≠ 4 → ¬ shash (ltr t) = 102846135 := by decide +kernel
        have h9 : ∀ t, t < 12 → 2 ≤ t → t ≠ 7 → s ≠ ltr t := fun t h1 h2 h7 z => by
          by_cases e : t = 4
          · subst e; exact hne z
          · exact key t h1 h2 h7 e (by rw [← z]; exact e8_6)
        exact nm_none h9
      refine a_iload_n cx dX6_numbers_218 rfl ?_
      refine a_tabOut cx (tgt := 276) dX6_numbers_219 (Or.inl (by decide)) (by decide) ?_
      refine a_iconst cx (v := -1) dX6_numbers_276 (by decide) ?_
      exact a_iret cx hq dX6_numbers_277 ⟨by rw [hz], rfl⟩ (Nat.le_of_ble_eq_true rfl) (Nat.le_of_ble_eq_true rfl)
    · have heq : s = ltr 4 := of_decide_eq_true (bI_n0 c112)
      have hz : nmO s = 1 := by rw [heq]; decide +kernel
      refine a_iconst cx (v := 1) dX6_numbers_115 (by decide) ?_
      refine a_istore_n cx dX6_numbers_116 (Nat.le_of_ble_eq_true rfl) rfl ?_
      refine a_goto cx (tgt := 218) dX6_numbers_117 (by decide) ?_
      refine a_iload_n cx dX6_numbers_218 rfl ?_
      refine a_tabIn cx (tgt := 270) dX6_numbers_219 (by decide) (by decide) rfl (by decide) ?_
      refine a_iconst cx (v := 1) dX6_numbers_270 (by decide) ?_
      exact a_iret cx hq dX6_numbers_271 ⟨by rw [hz], rfl⟩ (Nat.le_of_ble_eq_true rfl) (Nat.le_of_ble_eq_true rfl)
  by_cases e8_7 : shash s = 108704142
  · refine AW.topi e8_7 ?_
    refine a_lookup cx (off := 84) (tgt := 92) dX6_numbers_8 (by decide) (by decide +kernel) (by decide) ?_
    refine a_aload_n cx dX6_numbers_92 rfl ?_
    refine a_ldcS cx (cx.hG.str (t := 8) (by decide +kernel)) dX6_numbers_93 ?_
    refine c_V cx (j6_equals cx.htr hT (hk8.2.str (t := 8) (by omega)) has_ (asc_ltr 8 (by omega))) (lw_V q1134 q1135 q1136 q85 q1137) dn_J6_equals (RN.of rfl rfl rfl rfl) rfl (hset_s _ _ _) rfl rfl rfl (Nat.le_of_ble_eq_true rfl) dX6_numbers_95 (Nat.le_of_ble_eq_true rfl) (Nat.le_of_ble_eq_true rfl) (pK ?_) (fun E9 q9 h9 hx9 => hx9.elim)
    refine a_if_eq cx (tgt := 218) dX6_numbers_98 (by decide) (fun c98 => ?_) (fun c98 => ?_)
    · have hne : s ≠ ltr 8 := of_decide_eq_false ((bI_0 _).mp c98)
      have hz : nmO s = -1 := by
        have key : ∀ t, t < 12 → 2 ≤ t → t ≠ 7 → t ≠ 8 → ¬ shash (ltr t) = 108704142 := by decide +kernel
        have h9 : ∀ t, t < 12 → 2 ≤ t → t ≠ 7 → s ≠ ltr t := fun t h1 h2 h7 z => by
          by_cases e : t = 8
          · subst e; exact hne z
          · exact key t h1 h2 h7 e (by rw [← z]; exact e8_7)
        exact nm_none h9
      refine a_iload_n cx dX6_numbers_218 rfl ?_
      refine a_tabOut cx (tgt := 276) dX6_numbers_219 (Or.inl (by decide)) (by decide) ?_
      refine a_iconst cx (v := -1) dX6_numbers_276 (by decide) ?_
      exact a_iret cx hq dX6_numbers_277 ⟨by rw [hz], rfl⟩ (Nat.le_of_ble_eq_true rfl) (Nat.le_of_ble_eq_true rfl)
    · have heq : s = ltr 8 := of_decide_eq_true (bI_n0 c98)
      have hz : nmO s = 0 := by rw [heq]; decide +kernel
      refine a_iconst cx (v := 0) dX6_numbers_101 (by decide) ?_
      refine a_istore_n cx dX6_numbers_102 (Nat.le_of_ble_eq_true rfl) rfl ?_
      refine a_goto cx (tgt := 218) dX6_numbers_103 (by decide) ?_
      refine a_iload_n cx dX6_numbers_218 rfl ?_
      refine a_tabIn cx (tgt := 268) dX6_numbers_219 (by decide) (by decide) rfl (by decide) ?_
      refine a_iconst cx (v := 0) dX6_numbers_268 (by decide) ?_
      exact a_iret cx hq dX6_numbers_269 ⟨by rw [hz], rfl⟩ (Nat.le_of_ble_eq_true rfl) (Nat.le_of_ble_eq_true rfl)
  by_cases e8_8 : shash s = 109403483
  · refine AW.topi e8_8 ?_
    refine a_lookup cx (off := 183) (tgt := 191) dX6_numbers_8 (by decide) (by decide +kernel) (by decide) ?_
    refine a_aload_n cx dX6_numbers_191 rfl ?_
    refine a_ldcS cx (cx.hG.str (t := 2) (by decide +kernel)) dX6_numbers_192 ?_
    refine c_V cx (j6_equals cx.htr hT (hk8.2.str (t := 2) (by omega)) has_ (asc_ltr 2 (by omega))) (lw_V q1134 q1135 q1136 q85 q1137) dn_J6_equals (RN.of rfl rfl rfl rfl) rfl (hset_s _ _ _) rfl rfl rfl (Nat.le_of_ble_eq_true rfl) dX6_numbers_194 (Nat.le_of_ble_eq_true rfl) (Nat.le_of_ble_eq_true rfl) (pK ?_) (fun E9 q9 h9 hx9 => hx9.elim)
    refine a_if_eq cx (tgt := 218) dX6_numbers_197 (by decide) (fun c197 => ?_) (fun c197 => ?_)
    · have hne : s ≠ ltr 2 := of_decide_eq_false ((bI_0 _).mp c197)
      have hz : nmO s = -1 := by
        have key : ∀ t, t < 12 → 2 ≤ t → t ≠ 7 → t ≠ 2 → ¬ shash (ltr t) = 109403483 := by decide +kernel
        have h9 : ∀ t, t < 12 → 2 ≤ t → t ≠ 7 → s ≠ ltr t := fun t h1 h2 h7 z => by
          by_cases e : t = 2
          · subst e; exact hne z
          · exact key t h1 h2 h7 e (by rw [← z]; exact e8_8)
        exact nm_none h9
      refine a_iload_n cx dX6_numbers_218 rfl ?_
      refine a_tabOut cx (tgt := 276) dX6_numbers_219 (Or.inl (by decide)) (by decide) ?_
      refine a_iconst cx (v := -1) dX6_numbers_276 (by decide) ?_
      exact a_iret cx hq dX6_numbers_277 ⟨by rw [hz], rfl⟩ (Nat.le_of_ble_eq_true rfl) (Nat.le_of_ble_eq_true rfl)
    · have heq : s = ltr 2 := of_decide_eq_true (bI_n0 c197)
      have hz : nmO s = 3 := by rw [heq]; decide +kernel
      refine a_bipush cx (v := 7) dX6_numbers_200 (by decide) ?_
      refine a_istore_n cx dX6_numbers_202 (Nat.le_of_ble_eq_true rfl) rfl ?_
      refine a_goto cx (tgt := 218) dX6_numbers_203 (by decide) ?_
      refine a_iload_n cx dX6_numbers_218 rfl ?_
      refine a_tabIn cx (tgt := 274) dX6_numbers_219 (by decide) (by decide) rfl (by decide) ?_
      refine a_iconst cx (v := 3) dX6_numbers_274 (by decide) ?_
      exact a_iret cx hq dX6_numbers_275 ⟨by rw [hz], rfl⟩ (Nat.le_of_ble_eq_true rfl) (Nat.le_of_ble_eq_true rfl)
  refine a_lookup cx (off := 210) (tgt := 218) dX6_numbers_8 (by decide) (by rw [Op.lookupswitch.offset_cons, if_neg (fun z => e8_0 (Int32.toInt_inj.mp z.symm))]; rw [Op.lookupswitch.offset_cons, if_neg (fun z => e8_1 (Int32.toInt_inj.mp z.symm))]; rw [Op.lookupswitch.offset_cons, if_neg (fun z => e8_2 (Int32.toInt_inj.mp z.symm))]; rw [Op.lookupswitch.offset_cons, if_neg (fun z => e8_3 (Int32.toInt_inj.mp z.symm))]; rw [Op.lookupswitch.offset_cons, if_neg (fun z => e8_4 (Int32.toInt_inj.mp z.symm))]; rw [Op.lookupswitch.offset_cons, if_neg (fun z => e8_5 (Int32.toInt_inj.mp z.symm))]; rw [Op.lookupswitch.offset_cons, if_neg (fun z => e8_6 (Int32.toInt_inj.mp z.symm))]; rw [Op.lookupswitch.offset_cons, if_neg (fun z => e8_7 (Int32.toInt_inj.mp z.symm))]; rw [Op.lookupswitch.offset_cons, if_neg (fun z => e8_8 (Int32.toInt_inj.mp z.symm))]; rfl) (by decide) ?_
  have hz : nmO s = -1 := nm_none (fun t h1 h2 h7 z => by
    rcases (show t = 2 ∨ t = 3 ∨ t = 4 ∨ t = 5 ∨ t = 6 ∨ t = 8 ∨ t = 9 ∨ t = 10 ∨ t = 11 by omega) with y | y | y | y | y | y | y | y | y
    · subst y; exact e8_8 (by rw [z]; decide +kernel)
    · subst y; exact e8_3 (by rw [z]; decide +kernel)
    · subst y; exact e8_6 (by rw [z]; decide +kernel)
    · subst y; exact e8_1 (by rw [z]; decide +kernel)
    · subst y; exact e8_4 (by rw [z]; decide +kernel)
    · subst y; exact e8_7 (by rw [z]; decide +kernel)
    · subst y; exact e8_0 (by rw [z]; decide +kernel)
    · subst y; exact e8_2 (by rw [z]; decide +kernel)
    · subst y; exact e8_5 (by rw [z]; decide +kernel))
  refine a_iload_n cx dX6_numbers_218 rfl ?_
  refine a_tabOut cx (tgt := 276) dX6_numbers_219 (Or.inl (by decide)) (by decide) ?_
  refine a_iconst cx (v := -1) dX6_numbers_276 (by decide) ?_
  exact a_iret cx hq dX6_numbers_277 ⟨by rw [hz], rfl⟩ (Nat.le_of_ble_eq_true rfl) (Nat.le_of_ble_eq_true rfl)
abbrev rm_X6_begins : Room := { frames := 6, cells := 6, slots := 624, locals := 151 }
set_option maxHeartbeats 4000000 in
theorem f6_begins {lx : Launch} {g : GP} {h : AH} (htr : lx.stackTraces = false) {a : Nat} {s : List Nat} (hT : StrAt g h a s) (hasc : asc s) (h20 : s.length ≤ 20) : KT lx g yX6_begins (ws_ yX6_begins cX6_begins 2 (some .boolean)) rm_X6_begins 6 624 [.ref a] h (isP (.int (bI (has (ltr 12) (32 :: s)))) h) (noX) := by
  refine KT.of (by decide +kernel) htr (Nat.le_of_ble_eq_true rfl) (L0 := [some (.ref a), none]) rfl ?_
  intro M cx hl9 hq hin hnx
  obtain ⟨hO, rfl⟩ : ∃ z, z = h := ⟨_, rfl⟩
  refine AW.hk fun hk9 => ?_
  refine a_ldcS cx (cx.hG.str (t := 12) (by decide +kernel)) dX6_begins_0 ?_
  refine a_astore_n cx dX6_begins_2 (Nat.le_of_ble_eq_true rfl) rfl ?_
  refine a_aload_n cx dX6_begins_3 rfl ?_
  refine a_new cx nl_X6_78 dX6_begins_4 (Nat.le_of_ble_eq_true rfl) (Nat.le_of_ble_eq_true rfl) (fun sb n4 hB4 => ?_)
  refine a_dup cx dX6_begins_7 rfl ?_
  refine c_I cx (j5_init cx.htr (hset_s _ _ _)) (lw_meth q215) q84 q1835 q214 rfl dn_J5_init (RN.of rfl rfl rfl rfl) rfl rfl (Nat.le_of_ble_eq_true rfl) dX6_begins_8 (Nat.le_of_ble_eq_true rfl) (Nat.le_of_ble_eq_true rfl) (fun v9 h hp9 => ?_) (fun E9 q9 h9 hx9 => hx9.elim)
  obtain ⟨bb0, rfl, nbb, hBbb, rfl⟩ := hp9
  have hS0 := SB.new (hset_s _ _ _) nbb hBbb
  have nb0 : hO bb0 = none := (sub.new n4).none nbb
  have hs0 := ((sub.new n4 (e := eO 14 [.null, .int 0, .int 0, .int 0])).set nb0 (e := eI (g.2.1 1) 16 (fun _ => 0))).set n4 (e := eO 14 [.ref bb0, .int 0, .int 0, .int 0])
  refine AW.hk fun hk8 => ?_
  refine a_ldcS cx (cx.hG.str (t := 13) (by decide +kernel)) dX6_begins_11 ?_
  refine c_V cx (j5_append (tx := [32]) cx.htr hS0 (hk8.2.str (t := 13) (by omega)) (by show 0 + 1 ≤ 64; omega)) (lw_V q1837 q814 q815 q84 q816) dn_J5_append (RN.of rfl rfl rfl rfl) rfl hS0.1 rfl rfl rfl (Nat.le_of_ble_eq_true rfl) dX6_begins_13 (Nat.le_of_ble_eq_true rfl) (Nat.le_of_ble_eq_true rfl) (fun v9 h hp9 => ?_) (fun E9 q9 h9 hx9 => hx9.elim)
  obtain ⟨rfl, hA1⟩ := hp9
  obtain ⟨bb1, cp1, hS1, hs1, nb1, -⟩ := hA1.fresh hs0 n4 nb0
  refine a_aload_n cx dX6_begins_16 rfl ?_
  refine c_V cx (j5_append (tx := s) cx.htr hS1 (hT.up hs1) (by show 1 + _ ≤ 64; omega)) (lw_V q1837 q814 q815 q84 q816) dn_J5_append (RN.of rfl rfl rfl rfl) rfl hS1.1 rfl rfl rfl (Nat.le_of_ble_eq_true rfl) dX6_begins_17 (Nat.le_of_ble_eq_true rfl) (Nat.le_of_ble_eq_true rfl) (fun v9 h hp9 => ?_) (fun E9 q9 h9 hx9 => hx9.elim)
  obtain ⟨rfl, hA2⟩ := hp9
  obtain ⟨bb2, cp2, hS2, hs2, nb2, -⟩ := hA2.fresh hs1 n4 nb1
  refine c_V cx (j5_toString cx.htr hS2) (lw_V q1838 q944 q945 q84 q946) dn_J5_toString (RN.of rfl rfl rfl rfl) rfl hS2.1 rfl rfl rfl (Nat.le_of_ble_eq_true rfl) dX6_begins_20 (Nat.le_of_ble_eq_true rfl) (Nat.le_of_ble_eq_true rfl) (fun v9 h hp9 => ?_) (fun E9 q9 h9 hx9 => hx9.elim)
  obtain ⟨q7, rfl, nq7, hQ7, hx7⟩ := hp9
  refine AW.hk fun hk9b => ?_
  refine c_V cx (j6_contains (s := 32 :: s) cx.htr (hk9b.2.str (t := 12) (by omega)) hQ7.str (asc_ltr 12 (by omega)) ⟨by show s.length + 1 < _; omega, fun c hc => (List.mem_cons.mp hc).elim (fun z => by omega) (hasc.2 c)⟩ (by show 0 < s.length + 1; omega) (by rw [ltr12_len]; show s.length + 1 ≤ _; omega)) (lw_V q1839 q1840 q1841 q85 q1842) dn_J6_contains (RN.of rfl rfl rfl rfl) rfl (hk9b.2.1 12 (by omega)).1 rfl rfl rfl (Nat.le_of_ble_eq_true rfl) dX6_begins_23 (Nat.le_of_ble_eq_true rfl) (Nat.le_of_ble_eq_true rfl) (pK ?_) (fun E9 q9 h9 hx9 => hx9.elim)
  refine AW.hm (hs2.tr hx7) (fun _ => hk9) ?_
  exact a_zret cx hq dX6_begins_26 (narrow_bI _) ⟨rfl, rfl⟩ (Nat.le_of_ble_eq_true rfl) (Nat.le_of_ble_eq_true rfl)
