/-! ORDERS MADE -/
set_option maxRecDepth 100000
abbrev rm_X6_make2 : Room := { frames := 28, cells := 6400, slots := 127200, locals := 600 }
set_option maxHeartbeats 4000000 in
theorem f6_make2 {lx : Launch} {g : GP} {h : AH} (htr : lx.stackTraces = false) {hb : AH} {f a ea ca b eb cb d : Nat} {ma mb : Int32} {ls lh : List Nat} {s : SF} (hF : FA g hb h f s a ea ma ca b eb mb cb d ls lh) (hWF : WF s) {o w wb p : Nat} {fn : Nat → Int32} (ho : h o = some (eO 5 [.ref w, .ref p])) (hw : h w = some (eO 15 [.ref wb, .int 0, .int (shash (ltr 2)), .int (zf (ltr 2))])) (hwb : h wb = some (eI (g.2.1 1) (ltr 2).length (sCh (ltr 2)))) (hp : h p = some (eI (g.2.1 0) 3 fn)) : KT lx g yX6_make (ws_ yX6_make cX6_make 4 (some .int)) rm_X6_make2 6400 127200 [.ref o, .ref f] h (PA g hb f (comesA s (fn 0) (fn 1) (fn 2))) (XA g hb (comesA s (fn 0) (fn 1) (fn 2)) exIA) := by
  refine KT.of (by decide +kernel) htr (Nat.le_of_ble_eq_true rfl) (L0 := [some (.ref o), some (.ref f), none, none]) rfl ?_
  intro M cx hl9 hq hin hnx
  have hR1 : rm_X6_make2.cells = 6400 := rfl
  have hR2 : rm_X6_make2.slots = 127200 := rfl
  refine AW.hk fun hk9 => ?_
  refine a_aload_n cx dX6_make_0 rfl ?_
  refine a_get cx fl_X6_9.g dX6_make_1 ho (by exact rfl) ?_
  refine a_astore_n cx dX6_make_4 (Nat.le_of_ble_eq_true rfl) rfl ?_
  refine a_iconst cx (v := -1) dX6_make_5 (by decide) ?_
  refine a_istore_n cx dX6_make_6 (Nat.le_of_ble_eq_true rfl) rfl ?_
  refine a_aload_n cx dX6_make_7 rfl ?_
  refine c_V cx (j6_hashCode cx.htr hw hwb (asc_ltr 2 (by omega)) (Or.inr ⟨rfl, rfl⟩)) (lw_V q1072 q1073 q1074 q85 q1075) dn_J6_hashCode (RN.of rfl rfl rfl rfl) rfl hw rfl rfl rfl (Nat.le_of_ble_eq_true rfl) dX6_make_8 (by omega) (by omega) (pK ?_) (fun E9 q9 h9 hx9 => hx9.elim)
  rw [hset_same hw]
  have hT : StrAt g h w (ltr 2) := StrAt.of hw hwb
  refine a_lookup cx (off := 81) (tgt := 92) dX6_make_11 (by decide) (by decide +kernel) (by decide) ?_
  refine a_aload_n cx dX6_make_92 rfl ?_
  refine a_ldcS cx (cx.hG.str (t := 2) (by decide +kernel)) dX6_make_93 ?_
  refine c_V cx (j6_equals cx.htr hT (hk9.2.str (t := 2) (by omega)) (asc_ltr 2 (by omega)) (asc_ltr 2 (by omega))) (lw_V q1134 q1135 q1136 q85 q1137) dn_J6_equals (RN.of rfl rfl rfl rfl) rfl hw rfl rfl rfl (Nat.le_of_ble_eq_true rfl) dX6_make_95 (by omega) (by omega) (pK ?_) (fun E9 q9 h9 hx9 => hx9.elim)
  refine a_if_eq cx (tgt := 218) dX6_make_98 (by decide) (fun c98 => absurd c98 (by rw [bI_t (decide_eq_true rfl)]; decide)) (fun c98 => ?_)
  refine a_iconst cx (v := 0) dX6_make_101 (by decide) ?_
  refine a_istore_n cx dX6_make_102 (Nat.le_of_ble_eq_true rfl) rfl ?_
  refine a_goto cx (tgt := 218) dX6_make_103 (by decide) ?_
  refine a_iload_n cx dX6_make_218 rfl ?_
  refine a_tabIn cx (tgt := 268) dX6_make_219 (by decide) (by decide) rfl (by decide) ?_
  refine a_aload_n cx dX6_make_268 rfl ?_
  refine a_aload_n cx dX6_make_269 rfl ?_
  refine a_get cx fl_X6_15.g dX6_make_270 ho (by exact rfl) ?_
  refine a_iconst cx (v := 0) dX6_make_273 (by decide) ?_
  refine a_iald cx dX6_make_274 hp (show (0 : Int32) = nI 0 from rfl) (by omega) (by omega) ?_
  refine a_aload_n cx dX6_make_275 rfl ?_
  refine a_get cx fl_X6_15.g dX6_make_276 ho (by exact rfl) ?_
  refine a_iconst cx (v := 1) dX6_make_279 (by decide) ?_
  refine a_iald cx dX6_make_280 hp (show (1 : Int32) = nI 1 from rfl) (by omega) (by omega) ?_
  refine a_aload_n cx dX6_make_281 rfl ?_
  refine a_get cx fl_X6_15.g dX6_make_282 ho (by exact rfl) ?_
  refine a_iconst cx (v := 2) dX6_make_285 (by decide) ?_
  refine a_iald cx dX6_make_286 hp (show (2 : Int32) = nI 2 from rfl) (by omega) (by omega) ?_
  refine c_V cx (f2_come cx.htr hF hWF) (lw_V q1150 q1151 q1152 q78 q1153) dn_X2_come (RN.of rfl rfl rfl rfl) rfl hF.o rfl rfl rfl (Nat.le_of_ble_eq_true rfl) dX6_make_287 (by omega) (by omega) (fun v9 h hp9 => ?_) (fun E9 q9 h9 hx9 => AX.out cx hq hnx hx9 (by omega) (by omega))
  obtain ⟨a1, rfl, a3⟩ := hp9
  exact a_iret cx hq dX6_make_290 ⟨a1, rfl, a3⟩ (by omega) (by omega)
abbrev rm_X6_make3 : Room := { frames := 28, cells := 6400, slots := 127200, locals := 600 }
set_option maxHeartbeats 4000000 in
theorem f6_make3 {lx : Launch} {g : GP} {h : AH} (htr : lx.stackTraces = false) {hb : AH} {f a ea ca b eb cb d : Nat} {ma mb : Int32} {ls lh : List Nat} {s : SF} (hF : FA g hb h f s a ea ma ca b eb mb cb d ls lh) (hWF : WF s) {o w wb p : Nat} {fn : Nat → Int32} (ho : h o = some (eO 5 [.ref w, .ref p])) (hw : h w = some (eO 15 [.ref wb, .int 0, .int (shash (ltr 3)), .int (zf (ltr 3))])) (hwb : h wb = some (eI (g.2.1 1) (ltr 3).length (sCh (ltr 3)))) (hp : h p = some (eI (g.2.1 0) 2 fn)) : KT lx g yX6_make (ws_ yX6_make cX6_make 4 (some .int)) rm_X6_make3 6400 127200 [.ref o, .ref f] h (PA g hb f (setsA s (fn 0) (fn 1))) (XA g hb (setsA s (fn 0) (fn 1)) exIA) := by
  refine KT.of (by decide +kernel) htr (Nat.le_of_ble_eq_true rfl) (L0 := [some (.ref o), some (.ref f), none, none]) rfl ?_
  intro M cx hl9 hq hin hnx
  have hR1 : rm_X6_make3.cells = 6400 := rfl
  have hR2 : rm_X6_make3.slots = 127200 := rfl
  refine AW.hk fun hk9 => ?_
  refine a_aload_n cx dX6_make_0 rfl ?_
  refine a_get cx fl_X6_9.g dX6_make_1 ho (by exact rfl) ?_
  refine a_astore_n cx dX6_make_4 (Nat.le_of_ble_eq_true rfl) rfl ?_
  refine a_iconst cx (v := -1) dX6_make_5 (by decide) ?_
  refine a_istore_n cx dX6_make_6 (Nat.le_of_ble_eq_true rfl) rfl ?_
  refine a_aload_n cx dX6_make_7 rfl ?_
  refine c_V cx (j6_hashCode cx.htr hw hwb (asc_ltr 3 (by omega)) (Or.inr ⟨rfl, rfl⟩)) (lw_V q1072 q1073 q1074 q85 q1075) dn_J6_hashCode (RN.of rfl rfl rfl rfl) rfl hw rfl rfl rfl (Nat.le_of_ble_eq_true rfl) dX6_make_8 (by omega) (by omega) (pK ?_) (fun E9 q9 h9 hx9 => hx9.elim)
  rw [hset_same hw]
  have hT : StrAt g h w (ltr 3) := StrAt.of hw hwb
  refine a_lookup cx (off := 95) (tgt := 106) dX6_make_11 (by decide) (by decide +kernel) (by decide) ?_
  refine a_aload_n cx dX6_make_106 rfl ?_
  refine a_ldcS cx (cx.hG.str (t := 3) (by decide +kernel)) dX6_make_107 ?_
  refine c_V cx (j6_equals cx.htr hT (hk9.2.str (t := 3) (by omega)) (asc_ltr 3 (by omega)) (asc_ltr 3 (by omega))) (lw_V q1134 q1135 q1136 q85 q1137) dn_J6_equals (RN.of rfl rfl rfl rfl) rfl hw rfl rfl rfl (Nat.le_of_ble_eq_true rfl) dX6_make_109 (by omega) (by omega) (pK ?_) (fun E9 q9 h9 hx9 => hx9.elim)
  refine a_if_eq cx (tgt := 218) dX6_make_112 (by decide) (fun c112 => absurd c112 (by rw [bI_t (decide_eq_true rfl)]; decide)) (fun c112 => ?_)
  refine a_iconst cx (v := 1) dX6_make_115 (by decide) ?_
  refine a_istore_n cx dX6_make_116 (Nat.le_of_ble_eq_true rfl) rfl ?_
  refine a_goto cx (tgt := 218) dX6_make_117 (by decide) ?_
  refine a_iload_n cx dX6_make_218 rfl ?_
  refine a_tabIn cx (tgt := 291) dX6_make_219 (by decide) (by decide) rfl (by decide) ?_
  refine a_aload_n cx dX6_make_291 rfl ?_
  refine a_aload_n cx dX6_make_292 rfl ?_
  refine a_get cx fl_X6_15.g dX6_make_293 ho (by exact rfl) ?_
  refine a_iconst cx (v := 0) dX6_make_296 (by decide) ?_
  refine a_iald cx dX6_make_297 hp (show (0 : Int32) = nI 0 from rfl) (by omega) (by omega) ?_
  refine a_aload_n cx dX6_make_298 rfl ?_
  refine a_get cx fl_X6_15.g dX6_make_299 ho (by exact rfl) ?_
  refine a_iconst cx (v := 1) dX6_make_302 (by decide) ?_
  refine a_iald cx dX6_make_303 hp (show (1 : Int32) = nI 1 from rfl) (by omega) (by omega) ?_
  refine c_V cx (f2_set cx.htr hF hWF) (lw_V q1201 q1202 q1203 q78 q1204) dn_X2_set (RN.of rfl rfl rfl rfl) rfl hF.o rfl rfl rfl (Nat.le_of_ble_eq_true rfl) dX6_make_304 (by omega) (by omega) (fun v9 h hp9 => ?_) (fun E9 q9 h9 hx9 => AX.out cx hq hnx hx9 (by omega) (by omega))
  obtain ⟨a1, rfl, a3⟩ := hp9
  exact a_iret cx hq dX6_make_307 ⟨a1, rfl, a3⟩ (by omega) (by omega)
abbrev rm_X6_make4 : Room := { frames := 28, cells := 6400, slots := 127200, locals := 600 }
set_option maxHeartbeats 4000000 in
theorem f6_make4 {lx : Launch} {g : GP} {h : AH} (htr : lx.stackTraces = false) {hb : AH} {f a ea ca b eb cb d : Nat} {ma mb : Int32} {ls lh : List Nat} {s : SF} (hF : FA g hb h f s a ea ma ca b eb mb cb d ls lh) (hWF : WF s) {o w wb p : Nat} {fn : Nat → Int32} (ho : h o = some (eO 5 [.ref w, .ref p])) (hw : h w = some (eO 15 [.ref wb, .int 0, .int (shash (ltr 4)), .int (zf (ltr 4))])) (hwb : h wb = some (eI (g.2.1 1) (ltr 4).length (sCh (ltr 4)))) (hp : h p = some (eI (g.2.1 0) 1 fn)) : KT lx g yX6_make (ws_ yX6_make cX6_make 4 (some .int)) rm_X6_make4 6400 127200 [.ref o, .ref f] h (PA g hb f (goesA s (fn 0))) (XA g hb (goesA s (fn 0)) exIO) := by
  refine KT.of (by decide +kernel) htr (Nat.le_of_ble_eq_true rfl) (L0 := [some (.ref o), some (.ref f), none, none]) rfl ?_
  intro M cx hl9 hq hin hnx
  have hR1 : rm_X6_make4.cells = 6400 := rfl
  have hR2 : rm_X6_make4.slots = 127200 := rfl
  refine AW.hk fun hk9 => ?_
  refine a_aload_n cx dX6_make_0 rfl ?_
  refine a_get cx fl_X6_9.g dX6_make_1 ho (by exact rfl) ?_
  refine a_astore_n cx dX6_make_4 (Nat.le_of_ble_eq_true rfl) rfl ?_
  refine a_iconst cx (v := -1) dX6_make_5 (by decide) ?_
  refine a_istore_n cx dX6_make_6 (Nat.le_of_ble_eq_true rfl) rfl ?_
  refine a_aload_n cx dX6_make_7 rfl ?_
  refine c_V cx (j6_hashCode cx.htr hw hwb (asc_ltr 4 (by omega)) (Or.inr ⟨rfl, rfl⟩)) (lw_V q1072 q1073 q1074 q85 q1075) dn_J6_hashCode (RN.of rfl rfl rfl rfl) rfl hw rfl rfl rfl (Nat.le_of_ble_eq_true rfl) dX6_make_8 (by omega) (by omega) (pK ?_) (fun E9 q9 h9 hx9 => hx9.elim)
  rw [hset_same hw]
  have hT : StrAt g h w (ltr 4) := StrAt.of hw hwb
  refine a_lookup cx (off := 109) (tgt := 120) dX6_make_11 (by decide) (by decide +kernel) (by decide) ?_
  refine a_aload_n cx dX6_make_120 rfl ?_
  refine a_ldcS cx (cx.hG.str (t := 4) (by decide +kernel)) dX6_make_121 ?_
  refine c_V cx (j6_equals cx.htr hT (hk9.2.str (t := 4) (by omega)) (asc_ltr 4 (by omega)) (asc_ltr 4 (by omega))) (lw_V q1134 q1135 q1136 q85 q1137) dn_J6_equals (RN.of rfl rfl rfl rfl) rfl hw rfl rfl rfl (Nat.le_of_ble_eq_true rfl) dX6_make_123 (by omega) (by omega) (pK ?_) (fun E9 q9 h9 hx9 => hx9.elim)
  refine a_if_eq cx (tgt := 218) dX6_make_126 (by decide) (fun c126 => absurd c126 (by rw [bI_t (decide_eq_true rfl)]; decide)) (fun c126 => ?_)
  refine a_iconst cx (v := 2) dX6_make_129 (by decide) ?_
  refine a_istore_n cx dX6_make_130 (Nat.le_of_ble_eq_true rfl) rfl ?_
  refine a_goto cx (tgt := 218) dX6_make_131 (by decide) ?_
  refine a_iload_n cx dX6_make_218 rfl ?_
  refine a_tabIn cx (tgt := 308) dX6_make_219 (by decide) (by decide) rfl (by decide) ?_
  refine a_aload_n cx dX6_make_308 rfl ?_
  refine a_aload_n cx dX6_make_309 rfl ?_
  refine a_get cx fl_X6_15.g dX6_make_310 ho (by exact rfl) ?_
  refine a_iconst cx (v := 0) dX6_make_313 (by decide) ?_
  refine a_iald cx dX6_make_314 hp (show (0 : Int32) = nI 0 from rfl) (by omega) (by omega) ?_
  refine c_V cx (f2_leave cx.htr hF hWF) (lw_V q1214 q1215 q1216 q78 q1217) dn_X2_leave (RN.of rfl rfl rfl rfl) rfl hF.o rfl rfl rfl (Nat.le_of_ble_eq_true rfl) dX6_make_315 (by omega) (by omega) (fun v9 h hp9 => ?_) (fun E9 q9 h9 hx9 => AX.out cx hq hnx hx9 (by omega) (by omega))
  obtain ⟨a1, rfl, a3⟩ := hp9
  exact a_iret cx hq dX6_make_318 ⟨a1, rfl, a3⟩ (by omega) (by omega)
abbrev rm_X6_make5 : Room := { frames := 28, cells := 6400, slots := 127200, locals := 600 }
set_option maxHeartbeats 4000000 in
theorem f6_make5 {lx : Launch} {g : GP} {h : AH} (htr : lx.stackTraces = false) {hb : AH} {f a ea ca b eb cb d : Nat} {ma mb : Int32} {ls lh : List Nat} {s : SF} (hF : FA g hb h f s a ea ma ca b eb mb cb d ls lh) (hWF : WF s) {o w wb p : Nat} {fn : Nat → Int32} (ho : h o = some (eO 5 [.ref w, .ref p])) (hw : h w = some (eO 15 [.ref wb, .int 0, .int (shash (ltr 5)), .int (zf (ltr 5))])) (hwb : h wb = some (eI (g.2.1 1) (ltr 5).length (sCh (ltr 5)))) (hp : h p = some (eI (g.2.1 0) 1 fn)) : KT lx g yX6_make (ws_ yX6_make cX6_make 4 (some .int)) rm_X6_make5 6400 127200 [.ref o, .ref f] h (PA g hb f (strikesA s (fn 0))) (XA g hb (strikesA s (fn 0)) exIO) := by
  refine KT.of (by decide +kernel) htr (Nat.le_of_ble_eq_true rfl) (L0 := [some (.ref o), some (.ref f), none, none]) rfl ?_
  intro M cx hl9 hq hin hnx
  have hR1 : rm_X6_make5.cells = 6400 := rfl
  have hR2 : rm_X6_make5.slots = 127200 := rfl
  refine AW.hk fun hk9 => ?_
  refine a_aload_n cx dX6_make_0 rfl ?_
  refine a_get cx fl_X6_9.g dX6_make_1 ho (by exact rfl) ?_
  refine a_astore_n cx dX6_make_4 (Nat.le_of_ble_eq_true rfl) rfl ?_
  refine a_iconst cx (v := -1) dX6_make_5 (by decide) ?_
  refine a_istore_n cx dX6_make_6 (Nat.le_of_ble_eq_true rfl) rfl ?_
  refine a_aload_n cx dX6_make_7 rfl ?_
  refine c_V cx (j6_hashCode cx.htr hw hwb (asc_ltr 5 (by omega)) (Or.inr ⟨rfl, rfl⟩)) (lw_V q1072 q1073 q1074 q85 q1075) dn_J6_hashCode (RN.of rfl rfl rfl rfl) rfl hw rfl rfl rfl (Nat.le_of_ble_eq_true rfl) dX6_make_8 (by omega) (by omega) (pK ?_) (fun E9 q9 h9 hx9 => hx9.elim)
  rw [hset_same hw]
  have hT : StrAt g h w (ltr 5) := StrAt.of hw hwb
  refine a_lookup cx (off := 123) (tgt := 134) dX6_make_11 (by decide) (by decide +kernel) (by decide) ?_
  refine a_aload_n cx dX6_make_134 rfl ?_
  refine a_ldcS cx (cx.hG.str (t := 5) (by decide +kernel)) dX6_make_135 ?_
  refine c_V cx (j6_equals cx.htr hT (hk9.2.str (t := 5) (by omega)) (asc_ltr 5 (by omega)) (asc_ltr 5 (by omega))) (lw_V q1134 q1135 q1136 q85 q1137) dn_J6_equals (RN.of rfl rfl rfl rfl) rfl hw rfl rfl rfl (Nat.le_of_ble_eq_true rfl) dX6_make_137 (by omega) (by omega) (pK ?_) (fun E9 q9 h9 hx9 => hx9.elim)
  refine a_if_eq cx (tgt := 218) dX6_make_140 (by decide) (fun c140 => absurd c140 (by rw [bI_t (decide_eq_true rfl)]; decide)) (fun c140 => ?_)
  refine a_iconst cx (v := 3) dX6_make_143 (by decide) ?_
  refine a_istore_n cx dX6_make_144 (Nat.le_of_ble_eq_true rfl) rfl ?_
  refine a_goto cx (tgt := 218) dX6_make_145 (by decide) ?_
  refine a_iload_n cx dX6_make_218 rfl ?_
  refine a_tabIn cx (tgt := 319) dX6_make_219 (by decide) (by decide) rfl (by decide) ?_
  refine a_aload_n cx dX6_make_319 rfl ?_
  refine a_aload_n cx dX6_make_320 rfl ?_
  refine a_get cx fl_X6_15.g dX6_make_321 ho (by exact rfl) ?_
  refine a_iconst cx (v := 0) dX6_make_324 (by decide) ?_
  refine a_iald cx dX6_make_325 hp (show (0 : Int32) = nI 0 from rfl) (by omega) (by omega) ?_
  refine c_V cx (f2_strike cx.htr hF hWF) (lw_V q1275 q1276 q1277 q78 q1278) dn_X2_strike (RN.of rfl rfl rfl rfl) rfl hF.o rfl rfl rfl (Nat.le_of_ble_eq_true rfl) dX6_make_326 (by omega) (by omega) (fun v9 h hp9 => ?_) (fun E9 q9 h9 hx9 => AX.out cx hq hnx hx9 (by omega) (by omega))
  obtain ⟨a1, rfl, a3⟩ := hp9
  exact a_iret cx hq dX6_make_329 ⟨a1, rfl, a3⟩ (by omega) (by omega)
abbrev rm_X6_make6 : Room := { frames := 28, cells := 6400, slots := 127200, locals := 600 }
set_option maxHeartbeats 4000000 in
theorem f6_make6 {lx : Launch} {g : GP} {h : AH} (htr : lx.stackTraces = false) {hb : AH} {f a ea ca b eb cb d : Nat} {ma mb : Int32} {ls lh : List Nat} {s : SF} (hF : FA g hb h f s a ea ma ca b eb mb cb d ls lh) (hWF : WF s) {o w wb p : Nat} {fn : Nat → Int32} (ho : h o = some (eO 5 [.ref w, .ref p])) (hw : h w = some (eO 15 [.ref wb, .int 0, .int (shash (ltr 6)), .int (zf (ltr 6))])) (hwb : h wb = some (eI (g.2.1 1) (ltr 6).length (sCh (ltr 6)))) (hp : h p = some (eI (g.2.1 0) 3 fn)) : KT lx g yX6_make (ws_ yX6_make cX6_make 4 (some .int)) rm_X6_make6 6400 127200 [.ref o, .ref f] h (PA g hb f (movesA s (fn 0) (fn 1) (fn 2))) (XA g hb (movesA s (fn 0) (fn 1) (fn 2)) exMv) := by
  refine KT.of (by decide +kernel) htr (Nat.le_of_ble_eq_true rfl) (L0 := [some (.ref o), some (.ref f), none, none]) rfl ?_
  intro M cx hl9 hq hin hnx
  have hR1 : rm_X6_make6.cells = 6400 := rfl
  have hR2 : rm_X6_make6.slots = 127200 := rfl
  refine AW.hk fun hk9 => ?_
  refine a_aload_n cx dX6_make_0 rfl ?_
  refine a_get cx fl_X6_9.g dX6_make_1 ho (by exact rfl) ?_
  refine a_astore_n cx dX6_make_4 (Nat.le_of_ble_eq_true rfl) rfl ?_
  refine a_iconst cx (v := -1) dX6_make_5 (by decide) ?_
  refine a_istore_n cx dX6_make_6 (Nat.le_of_ble_eq_true rfl) rfl ?_
  refine a_aload_n cx dX6_make_7 rfl ?_
  refine c_V cx (j6_hashCode cx.htr hw hwb (asc_ltr 6 (by omega)) (Or.inr ⟨rfl, rfl⟩)) (lw_V q1072 q1073 q1074 q85 q1075) dn_J6_hashCode (RN.of rfl rfl rfl rfl) rfl hw rfl rfl rfl (Nat.le_of_ble_eq_true rfl) dX6_make_8 (by omega) (by omega) (pK ?_) (fun E9 q9 h9 hx9 => hx9.elim)
  rw [hset_same hw]
  have hT : StrAt g h w (ltr 6) := StrAt.of hw hwb
  refine a_lookup cx (off := 137) (tgt := 148) dX6_make_11 (by decide) (by decide +kernel) (by decide) ?_
  refine a_aload_n cx dX6_make_148 rfl ?_
  refine a_ldcS cx (cx.hG.str (t := 6) (by decide +kernel)) dX6_make_149 ?_
  refine c_V cx (j6_equals cx.htr hT (hk9.2.str (t := 6) (by omega)) (asc_ltr 6 (by omega)) (asc_ltr 6 (by omega))) (lw_V q1134 q1135 q1136 q85 q1137) dn_J6_equals (RN.of rfl rfl rfl rfl) rfl hw rfl rfl rfl (Nat.le_of_ble_eq_true rfl) dX6_make_151 (by omega) (by omega) (pK ?_) (fun E9 q9 h9 hx9 => hx9.elim)
  refine a_if_eq cx (tgt := 218) dX6_make_154 (by decide) (fun c154 => absurd c154 (by rw [bI_t (decide_eq_true rfl)]; decide)) (fun c154 => ?_)
  refine a_iconst cx (v := 4) dX6_make_157 (by decide) ?_
  refine a_istore_n cx dX6_make_158 (Nat.le_of_ble_eq_true rfl) rfl ?_
  refine a_goto cx (tgt := 218) dX6_make_159 (by decide) ?_
  refine a_iload_n cx dX6_make_218 rfl ?_
  refine a_tabIn cx (tgt := 330) dX6_make_219 (by decide) (by decide) rfl (by decide) ?_
  refine a_aload_n cx dX6_make_330 rfl ?_
  refine a_aload_n cx dX6_make_331 rfl ?_
  refine a_get cx fl_X6_15.g dX6_make_332 ho (by exact rfl) ?_
  refine a_iconst cx (v := 0) dX6_make_335 (by decide) ?_
  refine a_iald cx dX6_make_336 hp (show (0 : Int32) = nI 0 from rfl) (by omega) (by omega) ?_
  refine a_aload_n cx dX6_make_337 rfl ?_
  refine a_get cx fl_X6_15.g dX6_make_338 ho (by exact rfl) ?_
  refine a_iconst cx (v := 1) dX6_make_341 (by decide) ?_
  refine a_iald cx dX6_make_342 hp (show (1 : Int32) = nI 1 from rfl) (by omega) (by omega) ?_
  refine a_aload_n cx dX6_make_343 rfl ?_
  refine a_get cx fl_X6_15.g dX6_make_344 ho (by exact rfl) ?_
  refine a_iconst cx (v := 2) dX6_make_347 (by decide) ?_
  refine a_iald cx dX6_make_348 hp (show (2 : Int32) = nI 2 from rfl) (by omega) (by omega) ?_
  refine c_V cx (f2_move cx.htr hF hWF) (lw_V q1290 q1291 q1292 q78 q1293) dn_X2_move (RN.of rfl rfl rfl rfl) rfl hF.o rfl rfl rfl (Nat.le_of_ble_eq_true rfl) dX6_make_349 (by omega) (by omega) (fun v9 h hp9 => ?_) (fun E9 q9 h9 hx9 => AX.out cx hq hnx hx9 (by omega) (by omega))
  obtain ⟨a1, rfl, a3⟩ := hp9
  exact a_iret cx hq dX6_make_352 ⟨a1, rfl, a3⟩ (by omega) (by omega)
abbrev rm_X6_make7 : Room := { frames := 28, cells := 6400, slots := 127200, locals := 600 }
set_option maxHeartbeats 4000000 in
theorem f6_make7 {lx : Launch} {g : GP} {h : AH} (htr : lx.stackTraces = false) {hb : AH} {f a ea ca b eb cb d : Nat} {ma mb : Int32} {ls lh : List Nat} {s : SF} (hF : FA g hb h f s a ea ma ca b eb mb cb d ls lh) (hWF : WF s) {o w wb p : Nat} {fn : Nat → Int32} (ho : h o = some (eO 5 [.ref w, .ref p])) (hw : h w = some (eO 15 [.ref wb, .int 0, .int (shash (ltr 7)), .int (zf (ltr 7))])) (hwb : h wb = some (eI (g.2.1 1) (ltr 7).length (sCh (ltr 7)))) (hp : h p = some (eI (g.2.1 0) 2 fn)) : KT lx g yX6_make (ws_ yX6_make cX6_make 4 (some .int)) rm_X6_make7 6400 127200 [.ref o, .ref f] h (PA g hb f (weighsA s (fn 0) (fn 1))) (XA g hb (weighsA s (fn 0) (fn 1)) exMv) := by
  refine KT.of (by decide +kernel) htr (Nat.le_of_ble_eq_true rfl) (L0 := [some (.ref o), some (.ref f), none, none]) rfl ?_
  intro M cx hl9 hq hin hnx
  have hR1 : rm_X6_make7.cells = 6400 := rfl
  have hR2 : rm_X6_make7.slots = 127200 := rfl
  refine AW.hk fun hk9 => ?_
  refine a_aload_n cx dX6_make_0 rfl ?_
  refine a_get cx fl_X6_9.g dX6_make_1 ho (by exact rfl) ?_
  refine a_astore_n cx dX6_make_4 (Nat.le_of_ble_eq_true rfl) rfl ?_
  refine a_iconst cx (v := -1) dX6_make_5 (by decide) ?_
  refine a_istore_n cx dX6_make_6 (Nat.le_of_ble_eq_true rfl) rfl ?_
  refine a_aload_n cx dX6_make_7 rfl ?_
  refine c_V cx (j6_hashCode cx.htr hw hwb (asc_ltr 7 (by omega)) (Or.inr ⟨rfl, rfl⟩)) (lw_V q1072 q1073 q1074 q85 q1075) dn_J6_hashCode (RN.of rfl rfl rfl rfl) rfl hw rfl rfl rfl (Nat.le_of_ble_eq_true rfl) dX6_make_8 (by omega) (by omega) (pK ?_) (fun E9 q9 h9 hx9 => hx9.elim)
  rw [hset_same hw]
  have hT : StrAt g h w (ltr 7) := StrAt.of hw hwb
  refine a_lookup cx (off := 151) (tgt := 162) dX6_make_11 (by decide) (by decide +kernel) (by decide) ?_
  refine a_aload_n cx dX6_make_162 rfl ?_
  refine a_ldcS cx (cx.hG.str (t := 7) (by decide +kernel)) dX6_make_163 ?_
  refine c_V cx (j6_equals cx.htr hT (hk9.2.str (t := 7) (by omega)) (asc_ltr 7 (by omega)) (asc_ltr 7 (by omega))) (lw_V q1134 q1135 q1136 q85 q1137) dn_J6_equals (RN.of rfl rfl rfl rfl) rfl hw rfl rfl rfl (Nat.le_of_ble_eq_true rfl) dX6_make_165 (by omega) (by omega) (pK ?_) (fun E9 q9 h9 hx9 => hx9.elim)
  refine a_if_eq cx (tgt := 218) dX6_make_168 (by decide) (fun c168 => absurd c168 (by rw [bI_t (decide_eq_true rfl)]; decide)) (fun c168 => ?_)
  refine a_iconst cx (v := 5) dX6_make_171 (by decide) ?_
  refine a_istore_n cx dX6_make_172 (Nat.le_of_ble_eq_true rfl) rfl ?_
  refine a_goto cx (tgt := 218) dX6_make_173 (by decide) ?_
  refine a_iload_n cx dX6_make_218 rfl ?_
  refine a_tabIn cx (tgt := 353) dX6_make_219 (by decide) (by decide) rfl (by decide) ?_
  refine a_aload_n cx dX6_make_353 rfl ?_
  refine a_aload_n cx dX6_make_354 rfl ?_
  refine a_get cx fl_X6_15.g dX6_make_355 ho (by exact rfl) ?_
  refine a_iconst cx (v := 0) dX6_make_358 (by decide) ?_
  refine a_iald cx dX6_make_359 hp (show (0 : Int32) = nI 0 from rfl) (by omega) (by omega) ?_
  refine a_aload_n cx dX6_make_360 rfl ?_
  refine a_get cx fl_X6_15.g dX6_make_361 ho (by exact rfl) ?_
  refine a_iconst cx (v := 1) dX6_make_364 (by decide) ?_
  refine a_iald cx dX6_make_365 hp (show (1 : Int32) = nI 1 from rfl) (by omega) (by omega) ?_
  refine c_V cx (f2_weigh cx.htr hF hWF) (lw_V q1294 q1295 q1296 q78 q1297) dn_X2_weigh (RN.of rfl rfl rfl rfl) rfl hF.o rfl rfl rfl (Nat.le_of_ble_eq_true rfl) dX6_make_366 (by omega) (by omega) (fun v9 h hp9 => ?_) (fun E9 q9 h9 hx9 => AX.out cx hq hnx hx9 (by omega) (by omega))
  obtain ⟨a1, rfl, a3⟩ := hp9
  exact a_iret cx hq dX6_make_369 ⟨a1, rfl, a3⟩ (by omega) (by omega)
abbrev rm_X6_make8 : Room := { frames := 28, cells := 6400, slots := 127200, locals := 600 }
set_option maxHeartbeats 4000000 in
theorem f6_make8 {lx : Launch} {g : GP} {h : AH} (htr : lx.stackTraces = false) {hb : AH} {f a ea ca b eb cb d : Nat} {ma mb : Int32} {ls lh : List Nat} {s : SF} (hF : FA g hb h f s a ea ma ca b eb mb cb d ls lh) (hWF : WF s) {o w wb p : Nat} {fn : Nat → Int32} (ho : h o = some (eO 5 [.ref w, .ref p])) (hw : h w = some (eO 15 [.ref wb, .int 0, .int (shash (ltr 8)), .int (zf (ltr 8))])) (hwb : h wb = some (eI (g.2.1 1) (ltr 8).length (sCh (ltr 8)))) (hp : h p = some (eI (g.2.1 0) 0 fn)) : KT lx g yX6_make (ws_ yX6_make cX6_make 4 (some .int)) rm_X6_make8 6400 127200 [.ref o, .ref f] h (PA g hb f (roundsA s)) (XA g hb (roundsA s) exIA) := by
  refine KT.of (by decide +kernel) htr (Nat.le_of_ble_eq_true rfl) (L0 := [some (.ref o), some (.ref f), none, none]) rfl ?_
  intro M cx hl9 hq hin hnx
  have hR1 : rm_X6_make8.cells = 6400 := rfl
  have hR2 : rm_X6_make8.slots = 127200 := rfl
  refine AW.hk fun hk9 => ?_
  refine a_aload_n cx dX6_make_0 rfl ?_
  refine a_get cx fl_X6_9.g dX6_make_1 ho (by exact rfl) ?_
  refine a_astore_n cx dX6_make_4 (Nat.le_of_ble_eq_true rfl) rfl ?_
  refine a_iconst cx (v := -1) dX6_make_5 (by decide) ?_
  refine a_istore_n cx dX6_make_6 (Nat.le_of_ble_eq_true rfl) rfl ?_
  refine a_aload_n cx dX6_make_7 rfl ?_
  refine c_V cx (j6_hashCode cx.htr hw hwb (asc_ltr 8 (by omega)) (Or.inr ⟨rfl, rfl⟩)) (lw_V q1072 q1073 q1074 q85 q1075) dn_J6_hashCode (RN.of rfl rfl rfl rfl) rfl hw rfl rfl rfl (Nat.le_of_ble_eq_true rfl) dX6_make_8 (by omega) (by omega) (pK ?_) (fun E9 q9 h9 hx9 => hx9.elim)
  rw [hset_same hw]
  have hT : StrAt g h w (ltr 8) := StrAt.of hw hwb
  refine a_lookup cx (off := 165) (tgt := 176) dX6_make_11 (by decide) (by decide +kernel) (by decide) ?_
  refine a_aload_n cx dX6_make_176 rfl ?_
  refine a_ldcS cx (cx.hG.str (t := 8) (by decide +kernel)) dX6_make_177 ?_
  refine c_V cx (j6_equals cx.htr hT (hk9.2.str (t := 8) (by omega)) (asc_ltr 8 (by omega)) (asc_ltr 8 (by omega))) (lw_V q1134 q1135 q1136 q85 q1137) dn_J6_equals (RN.of rfl rfl rfl rfl) rfl hw rfl rfl rfl (Nat.le_of_ble_eq_true rfl) dX6_make_179 (by omega) (by omega) (pK ?_) (fun E9 q9 h9 hx9 => hx9.elim)
  refine a_if_eq cx (tgt := 218) dX6_make_182 (by decide) (fun c182 => absurd c182 (by rw [bI_t (decide_eq_true rfl)]; decide)) (fun c182 => ?_)
  refine a_bipush cx (v := 6) dX6_make_185 (by decide) ?_
  refine a_istore_n cx dX6_make_187 (Nat.le_of_ble_eq_true rfl) rfl ?_
  refine a_goto cx (tgt := 218) dX6_make_188 (by decide) ?_
  refine a_iload_n cx dX6_make_218 rfl ?_
  refine a_tabIn cx (tgt := 370) dX6_make_219 (by decide) (by decide) rfl (by decide) ?_
  refine a_aload_n cx dX6_make_370 rfl ?_
  refine c_V cx (f2_round cx.htr hF hWF) (lw_V q1298 q1299 q1300 q78 q1301) dn_X2_round (RN.of rfl rfl rfl rfl) rfl hF.o rfl rfl rfl (Nat.le_of_ble_eq_true rfl) dX6_make_371 (by omega) (by omega) (fun v9 h hp9 => ?_) (fun E9 q9 h9 hx9 => AX.out cx hq hnx hx9 (by omega) (by omega))
  obtain ⟨a1, rfl, a3⟩ := hp9
  exact a_iret cx hq dX6_make_374 ⟨a1, rfl, a3⟩ (by omega) (by omega)
abbrev rm_X6_make9 : Room := { frames := 28, cells := 6400, slots := 127200, locals := 600 }
set_option maxHeartbeats 4000000 in
theorem f6_make9 {lx : Launch} {g : GP} {h : AH} (htr : lx.stackTraces = false) {hb : AH} {f a ea ca b eb cb d : Nat} {ma mb : Int32} {ls lh : List Nat} {s : SF} (hF : FA g hb h f s a ea ma ca b eb mb cb d ls lh) (hWF : WF s) {o w wb p : Nat} {fn : Nat → Int32} (ho : h o = some (eO 5 [.ref w, .ref p])) (hw : h w = some (eO 15 [.ref wb, .int 0, .int (shash (ltr 9)), .int (zf (ltr 9))])) (hwb : h wb = some (eI (g.2.1 1) (ltr 9).length (sCh (ltr 9)))) (hp : h p = some (eI (g.2.1 0) 1 fn)) : KT lx g yX6_make (ws_ yX6_make cX6_make 4 (some .int)) rm_X6_make9 6400 127200 [.ref o, .ref f] h (PA g hb f (settlesA s (fn 0))) (XA g hb (settlesA s (fn 0)) exIA) := by
  refine KT.of (by decide +kernel) htr (Nat.le_of_ble_eq_true rfl) (L0 := [some (.ref o), some (.ref f), none, none]) rfl ?_
  intro M cx hl9 hq hin hnx
  have hR1 : rm_X6_make9.cells = 6400 := rfl
  have hR2 : rm_X6_make9.slots = 127200 := rfl
  refine AW.hk fun hk9 => ?_
  refine a_aload_n cx dX6_make_0 rfl ?_
  refine a_get cx fl_X6_9.g dX6_make_1 ho (by exact rfl) ?_
  refine a_astore_n cx dX6_make_4 (Nat.le_of_ble_eq_true rfl) rfl ?_
  refine a_iconst cx (v := -1) dX6_make_5 (by decide) ?_
  refine a_istore_n cx dX6_make_6 (Nat.le_of_ble_eq_true rfl) rfl ?_
  refine a_aload_n cx dX6_make_7 rfl ?_
  refine c_V cx (j6_hashCode cx.htr hw hwb (asc_ltr 9 (by omega)) (Or.inr ⟨rfl, rfl⟩)) (lw_V q1072 q1073 q1074 q85 q1075) dn_J6_hashCode (RN.of rfl rfl rfl rfl) rfl hw rfl rfl rfl (Nat.le_of_ble_eq_true rfl) dX6_make_8 (by omega) (by omega) (pK ?_) (fun E9 q9 h9 hx9 => hx9.elim)
  rw [hset_same hw]
  have hT : StrAt g h w (ltr 9) := StrAt.of hw hwb
  refine a_lookup cx (off := 180) (tgt := 191) dX6_make_11 (by decide) (by decide +kernel) (by decide) ?_
  refine a_aload_n cx dX6_make_191 rfl ?_
  refine a_ldcS cx (cx.hG.str (t := 9) (by decide +kernel)) dX6_make_192 ?_
  refine c_V cx (j6_equals cx.htr hT (hk9.2.str (t := 9) (by omega)) (asc_ltr 9 (by omega)) (asc_ltr 9 (by omega))) (lw_V q1134 q1135 q1136 q85 q1137) dn_J6_equals (RN.of rfl rfl rfl rfl) rfl hw rfl rfl rfl (Nat.le_of_ble_eq_true rfl) dX6_make_194 (by omega) (by omega) (pK ?_) (fun E9 q9 h9 hx9 => hx9.elim)
  refine a_if_eq cx (tgt := 218) dX6_make_197 (by decide) (fun c197 => absurd c197 (by rw [bI_t (decide_eq_true rfl)]; decide)) (fun c197 => ?_)
  refine a_bipush cx (v := 7) dX6_make_200 (by decide) ?_
  refine a_istore_n cx dX6_make_202 (Nat.le_of_ble_eq_true rfl) rfl ?_
  refine a_goto cx (tgt := 218) dX6_make_203 (by decide) ?_
  refine a_iload_n cx dX6_make_218 rfl ?_
  refine a_tabIn cx (tgt := 375) dX6_make_219 (by decide) (by decide) rfl (by decide) ?_
  refine a_aload_n cx dX6_make_375 rfl ?_
  refine a_aload_n cx dX6_make_376 rfl ?_
  refine a_get cx fl_X6_15.g dX6_make_377 ho (by exact rfl) ?_
  refine a_iconst cx (v := 0) dX6_make_380 (by decide) ?_
  refine a_iald cx dX6_make_381 hp (show (0 : Int32) = nI 0 from rfl) (by omega) (by omega) ?_
  refine c_V cx (f2_settle cx.htr hF hWF) (lw_V q1306 q1307 q1308 q78 q1309) dn_X2_settle (RN.of rfl rfl rfl rfl) rfl hF.o rfl rfl rfl (Nat.le_of_ble_eq_true rfl) dX6_make_382 (by omega) (by omega) (fun v9 h hp9 => ?_) (fun E9 q9 h9 hx9 => AX.out cx hq hnx hx9 (by omega) (by omega))
  obtain ⟨a1, rfl, a3⟩ := hp9
  exact a_iret cx hq dX6_make_385 ⟨a1, rfl, a3⟩ (by omega) (by omega)
abbrev rm_X6_make10 : Room := { frames := 28, cells := 6400, slots := 127200, locals := 600 }
set_option maxHeartbeats 4000000 in
theorem f6_make10 {lx : Launch} {g : GP} {h : AH} (htr : lx.stackTraces = false) {hb : AH} {f a ea ca b eb cb d : Nat} {ma mb : Int32} {ls lh : List Nat} {s : SF} (hF : FA g hb h f s a ea ma ca b eb mb cb d ls lh) (hWF : WF s) {o w wb p : Nat} {fn : Nat → Int32} (ho : h o = some (eO 5 [.ref w, .ref p])) (hw : h w = some (eO 15 [.ref wb, .int 0, .int (shash (ltr 10)), .int (zf (ltr 10))])) (hwb : h wb = some (eI (g.2.1 1) (ltr 10).length (sCh (ltr 10)))) (hp : h p = some (eI (g.2.1 0) 2 fn)) : KT lx g yX6_make (ws_ yX6_make cX6_make 4 (some .int)) rm_X6_make10 6400 127200 [.ref o, .ref f] h (PA g hb f (sendsA s (fn 0) (fn 1))) (XA g hb (sendsA s (fn 0) (fn 1)) exIO) := by
  refine KT.of (by decide +kernel) htr (Nat.le_of_ble_eq_true rfl) (L0 := [some (.ref o), some (.ref f), none, none]) rfl ?_
  intro M cx hl9 hq hin hnx
  have hR1 : rm_X6_make10.cells = 6400 := rfl
  have hR2 : rm_X6_make10.slots = 127200 := rfl
  refine AW.hk fun hk9 => ?_
  refine a_aload_n cx dX6_make_0 rfl ?_
  refine a_get cx fl_X6_9.g dX6_make_1 ho (by exact rfl) ?_
  refine a_astore_n cx dX6_make_4 (Nat.le_of_ble_eq_true rfl) rfl ?_
  refine a_iconst cx (v := -1) dX6_make_5 (by decide) ?_
  refine a_istore_n cx dX6_make_6 (Nat.le_of_ble_eq_true rfl) rfl ?_
  refine a_aload_n cx dX6_make_7 rfl ?_
  refine c_V cx (j6_hashCode cx.htr hw hwb (asc_ltr 10 (by omega)) (Or.inr ⟨rfl, rfl⟩)) (lw_V q1072 q1073 q1074 q85 q1075) dn_J6_hashCode (RN.of rfl rfl rfl rfl) rfl hw rfl rfl rfl (Nat.le_of_ble_eq_true rfl) dX6_make_8 (by omega) (by omega) (pK ?_) (fun E9 q9 h9 hx9 => hx9.elim)
  rw [hset_same hw]
  have hT : StrAt g h w (ltr 10) := StrAt.of hw hwb
  refine a_lookup cx (off := 195) (tgt := 206) dX6_make_11 (by decide) (by decide +kernel) (by decide) ?_
  refine a_aload_n cx dX6_make_206 rfl ?_
  refine a_ldcS cx (cx.hG.str (t := 10) (by decide +kernel)) dX6_make_207 ?_
  refine c_V cx (j6_equals cx.htr hT (hk9.2.str (t := 10) (by omega)) (asc_ltr 10 (by omega)) (asc_ltr 10 (by omega))) (lw_V q1134 q1135 q1136 q85 q1137) dn_J6_equals (RN.of rfl rfl rfl rfl) rfl hw rfl rfl rfl (Nat.le_of_ble_eq_true rfl) dX6_make_209 (by omega) (by omega) (pK ?_) (fun E9 q9 h9 hx9 => hx9.elim)
  refine a_if_eq cx (tgt := 218) dX6_make_212 (by decide) (fun c212 => absurd c212 (by rw [bI_t (decide_eq_true rfl)]; decide)) (fun c212 => ?_)
  refine a_bipush cx (v := 8) dX6_make_215 (by decide) ?_
  refine a_istore_n cx dX6_make_217 (Nat.le_of_ble_eq_true rfl) rfl ?_
  refine a_iload_n cx dX6_make_218 rfl ?_
  refine a_tabIn cx (tgt := 386) dX6_make_219 (by decide) (by decide) rfl (by decide) ?_
  refine a_aload_n cx dX6_make_386 rfl ?_
  refine a_aload_n cx dX6_make_387 rfl ?_
  refine a_get cx fl_X6_15.g dX6_make_388 ho (by exact rfl) ?_
  refine a_iconst cx (v := 0) dX6_make_391 (by decide) ?_
  refine a_iald cx dX6_make_392 hp (show (0 : Int32) = nI 0 from rfl) (by omega) (by omega) ?_
  refine a_aload_n cx dX6_make_393 rfl ?_
  refine a_get cx fl_X6_15.g dX6_make_394 ho (by exact rfl) ?_
  refine a_iconst cx (v := 1) dX6_make_397 (by decide) ?_
  refine a_iald cx dX6_make_398 hp (show (1 : Int32) = nI 1 from rfl) (by omega) (by omega) ?_
  refine c_V cx (f2_dog cx.htr hF hWF) (lw_V q1311 q1312 q1313 q78 q1314) dn_X2_dog (RN.of rfl rfl rfl rfl) rfl hF.o rfl rfl rfl (Nat.le_of_ble_eq_true rfl) dX6_make_399 (by omega) (by omega) (fun v9 h hp9 => ?_) (fun E9 q9 h9 hx9 => AX.out cx hq hnx hx9 (by omega) (by omega))
  obtain ⟨a1, rfl, a3⟩ := hp9
  exact a_iret cx hq dX6_make_402 ⟨a1, rfl, a3⟩ (by omega) (by omega)
abbrev rm_X6_make11 : Room := { frames := 28, cells := 6400, slots := 127200, locals := 600 }
set_option maxHeartbeats 4000000 in
theorem f6_make11 {lx : Launch} {g : GP} {h : AH} (htr : lx.stackTraces = false) {hb : AH} {f a ea ca b eb cb d : Nat} {ma mb : Int32} {ls lh : List Nat} {s : SF} (hF : FA g hb h f s a ea ma ca b eb mb cb d ls lh) (hWF : WF s) {o w wb p : Nat} {fn : Nat → Int32} (ho : h o = some (eO 5 [.ref w, .ref p])) (hw : h w = some (eO 15 [.ref wb, .int 0, .int (shash (ltr 11)), .int (zf (ltr 11))])) (hwb : h wb = some (eI (g.2.1 1) (ltr 11).length (sCh (ltr 11)))) (hp : h p = some (eI (g.2.1 0) 1 fn)) : KT lx g yX6_make (ws_ yX6_make cX6_make 4 (some .int)) rm_X6_make11 6400 127200 [.ref o, .ref f] h (PA g hb f (fetchesA s (fn 0))) (XA g hb (fetchesA s (fn 0)) exIO) := by
  refine KT.of (by decide +kernel) htr (Nat.le_of_ble_eq_true rfl) (L0 := [some (.ref o), some (.ref f), none, none]) rfl ?_
  intro M cx hl9 hq hin hnx
  have hR1 : rm_X6_make11.cells = 6400 := rfl
  have hR2 : rm_X6_make11.slots = 127200 := rfl
  refine AW.hk fun hk9 => ?_
  refine a_aload_n cx dX6_make_0 rfl ?_
  refine a_get cx fl_X6_9.g dX6_make_1 ho (by exact rfl) ?_
  refine a_astore_n cx dX6_make_4 (Nat.le_of_ble_eq_true rfl) rfl ?_
  refine a_iconst cx (v := -1) dX6_make_5 (by decide) ?_
  refine a_istore_n cx dX6_make_6 (Nat.le_of_ble_eq_true rfl) rfl ?_
  refine a_aload_n cx dX6_make_7 rfl ?_
  refine c_V cx (j6_hashCode cx.htr hw hwb (asc_ltr 11 (by omega)) (Or.inr ⟨rfl, rfl⟩)) (lw_V q1072 q1073 q1074 q85 q1075) dn_J6_hashCode (RN.of rfl rfl rfl rfl) rfl hw rfl rfl rfl (Nat.le_of_ble_eq_true rfl) dX6_make_8 (by omega) (by omega) (pK ?_) (fun E9 q9 h9 hx9 => hx9.elim)
  rw [hset_same hw]
  have hT : StrAt g h w (ltr 11) := StrAt.of hw hwb
  refine a_lookup cx (off := 207) (tgt := 218) dX6_make_11 (by decide) (by decide +kernel) (by decide) ?_
  refine a_iload_n cx dX6_make_218 rfl ?_
  refine a_tabOut cx (tgt := 403) dX6_make_219 (Or.inl (by decide)) (by decide) ?_
  refine a_aload_n cx dX6_make_403 rfl ?_
  refine a_aload_n cx dX6_make_404 rfl ?_
  refine a_get cx fl_X6_15.g dX6_make_405 ho (by exact rfl) ?_
  refine a_iconst cx (v := 0) dX6_make_408 (by decide) ?_
  refine a_iald cx dX6_make_409 hp (show (0 : Int32) = nI 0 from rfl) (by omega) (by omega) ?_
  refine c_V cx (f2_fetch cx.htr hF hWF) (lw_V q1320 q1321 q1322 q78 q1323) dn_X2_fetch (RN.of rfl rfl rfl rfl) rfl hF.o rfl rfl rfl (Nat.le_of_ble_eq_true rfl) dX6_make_410 (by omega) (by omega) (fun v9 h hp9 => ?_) (fun E9 q9 h9 hx9 => AX.out cx hq hnx hx9 (by omega) (by omega))
  obtain ⟨a1, rfl, a3⟩ := hp9
  exact a_iret cx hq dX6_make_413 ⟨a1, rfl, a3⟩ (by omega) (by omega)
