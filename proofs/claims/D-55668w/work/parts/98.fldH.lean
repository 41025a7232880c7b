/-! THE FIELD: fetch; rounds ahead -/
set_option maxRecDepth 100000
/-- the strays' numbers -/
def sri (s : SF) : Nat → List Nat
  | 0 => []
  | k + 1 => sri s k ++ (if stray s k = true then [k] else [])
theorem srl_sri (s : SF) (ls : List Nat) : ∀ n, srl s ls n = (sri s n).map (fun k => ls.getD k 0) := by
  intro n
  induction n with
  | zero => rfl
  | succ n ih => rw [srl, sri, List.map_append, ih]; split <;> rfl
theorem sri_mem {s : SF} {y : Nat} : ∀ {n : Nat}, y ∈ sri s n → y < n := by
  intro n
  induction n with
  | zero => intro h; cases h
  | succ n ih =>
    intro h
    rcases List.mem_append.mp h with h | h
    · have := ih h; omega
    · split at h
      · rw [List.mem_singleton] at h; omega
      · cases h
/-- the nearer of two -/
def fst1 (s : SF) (j : Nat) (o : Option Nat) (k : Nat) : Option Nat := match o with
  | none => some k
  | some b => if far s k j < far s b j then some k else some b
theorem fch_sri (s : SF) (j : Nat) : ∀ n, fch s j n = (sri s n).foldl (fst1 s j) none := by
  intro n
  induction n with
  | zero => rfl
  | succ n ih =>
    rw [fch, sri, List.foldl_append, ← ih]
    by_cases h : stray s n = true
    · have e : (if stray s n = true then [n] else []) = [n] := if_pos h
      rw [e]
      cases fch s j n with
      | none => exact if_pos h
      | some b =>
        show (if stray s n = true ∧ far s n j < far s b j then some n else some b) = (if far s n j < far s b j then some n else some b)
        by_cases h2 : far s n j < far s b j
        · rw [if_pos ⟨h, h2⟩, if_pos h2]
        · rw [if_neg (fun z => h2 z.2), if_neg h2]
    · have e : (if stray s n = true then [n] else []) = [] := if_neg h
      rw [e]
      cases fch s j n with
      | none => exact if_neg h
      | some b => exact if_neg (fun z : stray s n = true ∧ far s n j < far s b j => h z.1)
theorem getD_map {l : List Nat} {g : Nat → Nat} {k : Nat} (h : k < l.length) : (l.map g).getD k 0 = g (l.getD k 0) := by
  rw [List.getD_eq_getElem?_getD, List.getD_eq_getElem?_getD, List.getElem?_map, List.getElem?_eq_getElem h]
  rfl
theorem fold_up {s : SF} {j : Nat} {l : List Nat} {k : Nat} (h : k < l.length) : (l.take (k + 1)).foldl (fst1 s j) none = fst1 s j ((l.take k).foldl (fst1 s j) none) (l.getD k 0) := by
  rw [List.take_succ_eq_append_getElem h, List.foldl_append, List.getD_eq_getElem?_getD, List.getElem?_eq_getElem h]
  rfl
theorem fold_mem {s : SF} {j : Nat} : ∀ (l : List Nat) (o : Option Nat) (b : Nat), l.foldl (fst1 s j) o = some b → b ∈ l ∨ o = some b := by
  intro l
  induction l with
  | nil => intro o b h; exact Or.inr h
  | cons x l ih =>
    intro o b h
    rcases ih _ b h with h | h
    · exact Or.inl (List.mem_cons_of_mem _ h)
    · cases o with
      | none => cases h; exact Or.inl List.mem_cons_self
      | some c =>
        unfold fst1 at h
        dsimp only at h
        split at h
        · cases h; exact Or.inl List.mem_cons_self
        · exact Or.inr h
theorem fetchesA_x {s : SF} {u : Int32} (h : inR u 0 2 = false) : fetchesA s u = (-1, 0, s) := if_neg (by rw [h]; decide)
theorem fetchesA_n {s : SF} {d : Nat} (hd : d < 3) (h : inR (nI d) 0 2 = true) (h1 : s (6 + d) = -1) : fetchesA s (nI d) = (5, nI d, s) := by
  unfold fetchesA
  rw [if_pos h, oN_nI (by omega), if_pos h1]
theorem fetchesA_0 {s : SF} {d j : Nat} (hd : d < 3) (h : inR (nI d) 0 2 = true) (h1 : s (6 + d) = nI j) (hj : j < 2 ^ 31) (h2 : fch s j (nS s) = none) : fetchesA s (nI d) = (6, nI (nS s), s) := by
  unfold fetchesA
  rw [if_pos h, oN_nI (by omega), h1, if_neg (ne_m1 hj), oN_nI hj, h2]
theorem fetchesA_k {s : SF} {d j k : Nat} (hd : d < 3) (h : inR (nI d) 0 2 = true) (h1 : s (6 + d) = nI j) (hj : j < 2 ^ 31) (h2 : fch s j (nS s) = some k) : fetchesA s (nI d) = (0, nI k, upd (upd s (63 + k) (oI (nearO s k))) 4 (s 4 + 1)) := by
  unfold fetchesA
  rw [if_pos h, oN_nI (by omega), h1, if_neg (ne_m1 hj), oN_nI hj, h2]
abbrev rm_X2_fetch : Room := { frames := 18, cells := 30, slots := 1860, locals := 440 }
set_option maxHeartbeats 4000000 in
theorem f2_fetch {lx : Launch} {g : GP} {h : AH} (htr : lx.stackTraces = false) {hb : AH} {f a ea ca b eb cb d : Nat} {ma mb : Int32} {ls lh : List Nat} {s : SF} (hF : FA g hb h f s a ea ma ca b eb mb cb d ls lh) (hWF : WF s) {u : Int32} : KT lx g yX2_fetch (ws_ yX2_fetch cX2_fetch 6 (some .int)) rm_X2_fetch 30 1860 [.ref f, .int u] h (PA g hb f (fetchesA s u)) (XA g hb (fetchesA s u) exIO) := by
  refine KT.of (by decide +kernel) htr (Nat.le_of_ble_eq_true rfl) (L0 := [some (.ref f), some (.int u), none, none, none, none]) rfl ?_
  intro M cx hl9 hq hin hnx
  have hR1 : rm_X2_fetch.cells = 30 := rfl
  have hR2 : rm_X2_fetch.slots = 1860 := rfl
  refine AW.hk fun hk9 => ?_
  have hS := hWF.1
  have hP := hWF.2.2
  have hn := hS.2.1
  have hm := hS.2.2.2
  refine a_aload_n cx dX2_fetch_0 rfl ?_
  refine a_iload_n cx dX2_fetch_1 rfl ?_
  refine c_V cx (f2_checkDog cx.htr) (lw_V q1315 q1316 q1317 q78 q1318) dn_X2_checkDog (RN.of rfl rfl rfl rfl) rfl hF.o rfl rfl rfl (Nat.le_of_ble_eq_true rfl) dX2_fetch_2 (by omega) (by omega) (fun v9 h hp9 => ?_) (fun E9 q9 h9 hx9 => AX.out cx hq hnx (XA.thr hF.ss hx9 (fun z => ⟨by rw [fetchesA_x z]; exact m1_neg, by rw [fetchesA_x z]; first | done | rfl | decide⟩)) (by omega) (by omega))
  obtain ⟨rfl, e2, kD⟩ := hp9
  rw [e2]
  obtain ⟨d1, hd1, ed1⟩ := dog3 kD
  subst ed1
  obtain ⟨fd, hfd, hfd2⟩ := hF.dg
  refine a_aload_n cx dX2_fetch_5 rfl ?_
  refine a_get cx fl_X2_21.g dX2_fetch_6 hF.o (by exact rfl) ?_
  refine a_iload_n cx dX2_fetch_9 rfl ?_
  refine a_iald cx dX2_fetch_10 hfd rfl (by omega) (by omega) ?_
  refine AW.topi (hfd2 d1 hd1) ?_
  refine a_iconst cx (v := -1) dX2_fetch_11 (by decide) ?_
  refine a_icmp_eq cx (tgt := 19) dX2_fetch_12 (by decide) (fun c12 => ?_) (fun c12 => ?_)
  · refine a_iconst cx (v := 0) dX2_fetch_19 (by decide) ?_
    refine a_iconst cx (v := 5) dX2_fetch_20 (by decide) ?_
    refine a_iload_n cx dX2_fetch_21 rfl ?_
    refine c_S cx (f7_check (r := 5) (d := nI d1) cx.htr) (lw_S q1169 q1170 q106 q1171) dn_X7_check (RN.of rfl rfl rfl rfl) rfl rfl (Nat.le_of_ble_eq_true rfl) dX2_fetch_22 (by omega) (by omega) (fun v9 h hp9 => ?_) (fun E9 q9 h9 hx9 => AX.out cx hq hnx (XA.ref hF.ss hx9 (fun _ => by rw [fetchesA_n hd1 kD c12]; exact ⟨rfl, rfl⟩) (by decide)) (by omega) (by omega))
    obtain ⟨rfl, e22, ck22⟩ := hp9
    exact absurd rfl ck22
  · obtain ⟨j, hj, ej⟩ := (hWF.2.1.2 d1 hd1).resolve_left c12
    refine a_iconst cx (v := 1) dX2_fetch_15 (by decide) ?_
    refine a_goto cx (tgt := 20) dX2_fetch_16 (by decide) ?_
    refine a_iconst cx (v := 5) dX2_fetch_20 (by decide) ?_
    refine a_iload_n cx dX2_fetch_21 rfl ?_
    refine c_S cx (f7_check (r := 5) (d := nI d1) cx.htr) (lw_S q1169 q1170 q106 q1171) dn_X7_check (RN.of rfl rfl rfl rfl) rfl rfl (Nat.le_of_ble_eq_true rfl) dX2_fetch_22 (by omega) (by omega) (fun v9 h hp9 => ?_) (fun E9 q9 h9 hx9 => (absurd hx9.2.2.2.2 (by decide)))
    obtain ⟨rfl, e22, ck22⟩ := hp9
    rw [e22]
    refine a_aload_n cx dX2_fetch_25 rfl ?_
    refine a_get cx fl_X2_18.g dX2_fetch_26 hF.o (by exact rfl) ?_
    refine a_aload_n cx dX2_fetch_29 rfl ?_
    refine a_get cx fl_X2_21.g dX2_fetch_30 hF.o (by exact rfl) ?_
    refine a_iload_n cx dX2_fetch_33 rfl ?_
    refine a_iald cx dX2_fetch_34 hfd rfl (by omega) (by omega) ?_
    refine AW.topi ((hfd2 d1 hd1).trans ej) ?_
    refine c_V cx (j2_get (i := j) cx.htr hF.lb (by rw [hF.nh]; exact hj)) (lw_V q639 q426 q427 q81 q428) dn_J2_get (RN.of rfl rfl rfl rfl) rfl hF.lb.1 rfl rfl rfl (Nat.le_of_ble_eq_true rfl) dX2_fetch_35 (by omega) (by omega) (pK ?_) (fun E9 q9 h9 hx9 => hx9.elim)
    refine a_castS (r := (RX5, TX5, 2)) cx q563 dX2_fetch_38 (hF.hu hj) rfl ?_
    refine a_astore_n cx dX2_fetch_41 (Nat.le_of_ble_eq_true rfl) rfl ?_
    refine a_null cx dX2_fetch_42 ?_
    refine a_astore_n cx dX2_fetch_43 (Nat.le_of_ble_eq_true rfl) rfl ?_
    refine a_aload_n cx dX2_fetch_44 rfl ?_
    refine c_V cx (f2_strays cx.htr hF hn hm hWF.2.1.1) (lw_V q800 q775 q776 q78 q777) dn_X2_strays (RN.of rfl rfl rfl rfl) rfl hF.o rfl rfl rfl (Nat.le_of_ble_eq_true rfl) dX2_fetch_45 (by omega) (by omega) (fun v9 h hp9 => ?_) (fun E9 q9 h9 hx9 => hx9.elim)
    obtain ⟨q, edq, mq, cq, rfl, nq, hs2, hlq⟩ := hp9
    obtain ⟨h2, eh2⟩ : ∃ z, z = h := ⟨_, rfl⟩
    rw [← eh2]
    rw [← eh2] at hs2 hlq
    rw [srl_sri] at hlq
    have hlen : ((sri s (nS s)).map (fun k => ls.getD k 0)).length = (sri s (nS s)).length := List.length_map _
    have hl18 : (sri s (nS s)).length ≤ 18 := by rw [← hlen, ← srl_sri, srl_len]; have := strm_le s (nS s); omega
    refine c_V cx (j2_iterator cx.htr hlq.1) (lw_V q298 q299 q300 q81 q301) dn_J2_iterator (RN.of rfl rfl rfl rfl) rfl hlq.1 rfl rfl rfl (Nat.le_of_ble_eq_true rfl) dX2_fetch_48 (by omega) (by omega) (fun v9 h hp9 => ?_) (fun E9 q9 h9 hx9 => hx9.elim)
    obtain ⟨it, n48, hB48, rfl, rfl⟩ := hp9
    refine a_astore cx dX2_fetch_51 (Nat.le_of_ble_eq_true rfl) rfl ?_
    have loop : ∀ (j0 k : Nat) (last : Int32) (h3 : AH), k ≤ (sri s (nS s)).length → (sri s (nS s)).length < k + j0 → sub h2 h3 → h3 it = some (itE (nI k) last mq q) → AW g M 25 1830 53 [some (.ref f), some (.int (nI d1)), some (.ref (lh.getD j 0)), some (va_rf (rfo ls (((sri s (nS s)).take k).foldl (fst1 s j) none))), some (.ref it), none] [] h3 := by
      intro j0
      induction j0 with
      | zero => intro k last h3 b1 b2; omega
      | succ j0 ih =>
        intro k last h3 z1 z2 hs3 hit
        have hF3 := hF.up (hs2.tr hs3)
        have hl3 := hlq.sub hs3
        refine a_aload cx dX2_fetch_53 rfl ?_
        refine c_F cx (j8_hasNext cx.htr hit hl3.1 (by omega) (by omega)) (lw_F q322 q333 q335 q88 q337) (by decide +kernel) ⟨by decide, by decide, by decide +kernel⟩ (RN.of rfl rfl rfl rfl) rfl hit rfl rfl rfl (Nat.le_of_ble_eq_true rfl) dX2_fetch_55 (by omega) (by omega) (pK ?_) (fun E9 q9 h9 hx9 => hx9.elim)
        refine a_if_eq cx (tgt := 103) dX2_fetch_60 (by decide) (fun c60 => ?_) (fun c60 => ?_)
        · have d0 : k = (sri s (nS s)).length := (bne_eq_false_iff_eq.mp ((bI_0 _).mp c60)).trans hlen
          subst d0
          rw [List.take_length, ← fch_sri]
          refine a_aload_n cx dX2_fetch_103 rfl ?_ (isR_rf _)
          rcases hfc : fch s j (nS s) with _ | k
          · have hA := fetchesA_0 hd1 kD ej (by omega) hfc
            refine a_ifnullN cx (tgt := 111) dX2_fetch_104 (by decide) ?_
            refine a_iconst cx (v := 0) dX2_fetch_111 (by decide) ?_
            refine a_bipush cx (v := 6) dX2_fetch_112 (by decide) ?_
            refine a_aload_n cx dX2_fetch_114 rfl ?_
            refine a_get cx fl_X2_12.g dX2_fetch_115 hF3.o (by exact rfl) ?_
            refine c_V cx (j2_size cx.htr hF3.la.1) (lw_V q638 q274 q275 q81 q276) dn_J2_size (RN.of rfl rfl rfl rfl) rfl hF3.la.1 rfl rfl rfl (Nat.le_of_ble_eq_true rfl) dX2_fetch_118 (by omega) (by omega) (pK ?_) (fun E9 q9 h9 hx9 => hx9.elim)
            refine AW.topi (congrArg nI hF3.nl) ?_
            refine c_S cx (f7_check (r := 6) (d := nI (nS s)) cx.htr) (lw_S q1169 q1170 q106 q1171) dn_X7_check (RN.of rfl rfl rfl rfl) rfl rfl (Nat.le_of_ble_eq_true rfl) dX2_fetch_121 (by omega) (by omega) (fun v9 h hp9 => ?_) (fun E9 q9 h9 hx9 => AX.out cx hq hnx (XA.ref hF3.ss hx9 (fun _ => by rw [hA]; exact ⟨rfl, rfl⟩) (by decide)) (by omega) (by omega))
            obtain ⟨rfl, e121, ck121⟩ := hp9
            exact absurd rfl ck121
          · have hA := fetchesA_k hd1 kD ej (by omega) hfc
            have hk : k < nS s := by
              rw [fch_sri] at hfc
              exact (fold_mem _ _ _ hfc).elim sri_mem (fun z => by cases z)
            refine a_ifnull cx dX2_fetch_104 ?_
            refine a_iconst cx (v := 1) dX2_fetch_107 (by decide) ?_
            refine a_goto cx (tgt := 112) dX2_fetch_108 (by decide) ?_
            refine a_bipush cx (v := 6) dX2_fetch_112 (by decide) ?_
            refine a_aload_n cx dX2_fetch_114 rfl ?_
            refine a_get cx fl_X2_12.g dX2_fetch_115 hF3.o (by exact rfl) ?_
            refine c_V cx (j2_size cx.htr hF3.la.1) (lw_V q638 q274 q275 q81 q276) dn_J2_size (RN.of rfl rfl rfl rfl) rfl hF3.la.1 rfl rfl rfl (Nat.le_of_ble_eq_true rfl) dX2_fetch_118 (by omega) (by omega) (pK ?_) (fun E9 q9 h9 hx9 => hx9.elim)
            refine AW.topi (congrArg nI hF3.nl) ?_
            refine c_S cx (f7_check (r := 6) (d := nI (nS s)) cx.htr) (lw_S q1169 q1170 q106 q1171) dn_X7_check (RN.of rfl rfl rfl rfl) rfl rfl (Nat.le_of_ble_eq_true rfl) dX2_fetch_121 (by omega) (by omega) (fun v9 h hp9 => ?_) (fun E9 q9 h9 hx9 => (absurd hx9.2.2.2.2 (by decide)))
            obtain ⟨rfl, e121, ck121⟩ := hp9
            rw [e121]
            refine a_aload_n cx dX2_fetch_124 rfl ?_
            refine a_aload_n cx dX2_fetch_125 rfl ?_
            refine a_aload_n cx dX2_fetch_126 rfl ?_
            refine c_V cx (f2_nearests cx.htr hF3 hn hm (hF3.sh hk)) (lw_V q634 q635 q636 q78 q637) dn_X2_nearest (RN.of rfl rfl rfl rfl) rfl hF3.o rfl rfl rfl (Nat.le_of_ble_eq_true rfl) dX2_fetch_127 (by omega) (by omega) (pK ?_) (fun E9 q9 h9 hx9 => hx9.elim)
            refine AW.topi (show _ = oI (nearO s k) from rfl) ?_
            refine a_put cx fl_X2_107 dX2_fetch_130 (hF3.sh hk) rfl rfl (by exact (Nat.le_of_ble_eq_true rfl)) ?_
            have hF5 := hF3.sheep (s' := upd s (63 + k) (oI (nearO s k))) hk hn (fun q _ _ _ h4 => upd_n h4)
            rw [upd_n (show 9 + k ≠ 63 + k by omega), upd_n (show 27 + k ≠ 63 + k by omega), upd_n (show 45 + k ≠ 63 + k by omega), upd_s] at hF5
            refine a_aload_n cx dX2_fetch_133 rfl ?_
            refine a_dup cx dX2_fetch_134 rfl ?_
            refine a_get cx fl_X2_68.g dX2_fetch_135 hF5.o (by exact rfl) ?_
            refine a_iconst cx (v := 1) dX2_fetch_138 (by decide) ?_
            refine a_iadd cx dX2_fetch_139 ?_
            refine a_put cx fl_X2_68 dX2_fetch_140 hF5.o rfl rfl (by exact (Nat.le_of_ble_eq_true rfl)) ?_
            have hF6 := hF5.ctr (s' := upd (upd s (63 + k) (oI (nearO s k))) 4 (upd s (63 + k) (oI (nearO s k)) 4 + 1)) (fun q _ _ h4 _ => upd_n h4)
            have e4 : upd s (63 + k) (oI (nearO s k)) 4 = s 4 := upd_n (by omega)
            have hF7 := hF6.to (s' := upd (upd s (63 + k) (oI (nearO s k))) 4 (s 4 + 1)) (by rw [e4]) (by rw [e4]) (fun q _ _ => by rw [e4])
            have eN : nS (upd s (63 + k) (oI (nearO s k))) = nS s := nS_of (upd_n (by omega))
            refine a_aload_n cx dX2_fetch_143 rfl ?_
            refine a_get cx fl_X2_12.g dX2_fetch_144 hF6.o (by exact rfl) ?_
            refine a_aload_n cx dX2_fetch_147 rfl ?_
            refine c_V cx (j2_indexOf cx.htr hF6.la (hF6.sh (k := k) (by rw [nS_of (upd_n (show 0 ≠ 4 by omega)), eN]; exact hk))) (lw_V q1324 q1325 q1326 q81 q1327) dn_J2_indexOf (RN.of rfl rfl rfl rfl) rfl hF6.la.1 rfl rfl rfl (Nat.le_of_ble_eq_true rfl) dX2_fetch_148 (by omega) (by omega) (pK ?_) (fun E9 q9 h9 hx9 => hx9.elim)
            refine AW.topi (show _ = nI k by rw [fi_nodup hF.ds (by rw [hF.nl]; exact hk)]; rfl) ?_
            exact a_iret cx hq dX2_fetch_151 ⟨by rw [hA], by rw [hA], by rw [hA]; exact hF7.w⟩ (by omega) (by omega)
        · have d0 : k < (sri s (nS s)).length := by have q := bne_iff_ne.mp (bI_n0 c60); omega
          have dk : (sri s (nS s)).getD k 0 < nS s := sri_mem (getD_mem d0)
          refine a_aload cx dX2_fetch_63 rfl ?_
          refine c_F cx (j8_next cx.htr hit hl3 (by omega)) (lw_F q339 q445 q447 q88 q449) (by decide +kernel) ⟨by decide, by decide, by decide +kernel⟩ (RN.of rfl rfl rfl rfl) rfl hit rfl rfl rfl (Nat.le_of_ble_eq_true rfl) dX2_fetch_65 (by omega) (by omega) (pK ?_) (fun E9 q9 h9 hx9 => hx9.elim)
          refine AW.top (show _ = Value.ref (ls.getD ((sri s (nS s)).getD k 0) 0) by rw [getD_map d0]) ?_
          obtain ⟨h4, eh4⟩ : ∃ z, z = hset h3 it (itE (nI (k + 1)) (nI k) mq q) := ⟨_, rfl⟩
          rw [← eh4]
          have hs4 : sub h2 h4 := by rw [eh4]; exact hs3.set n48
          have hF4 := hF.up (hs2.tr hs4)
          have hit4 : h4 it = some (itE (nI (k + 1)) (nI k) mq q) := by rw [eh4]; exact hset_s _ _ _
          have hsh := hF4.sh dk
          refine a_castS (r := (RX4, TX4, 4)) cx q456 dX2_fetch_70 hsh rfl ?_
          refine a_astore cx dX2_fetch_73 (Nat.le_of_ble_eq_true rfl) rfl ?_
          refine a_aload_n cx dX2_fetch_75 rfl ?_ (isR_rf _)
          rcases hfo : ((sri s (nS s)).take k).foldl (fst1 s j) none with _ | b
          · have e1 : fst1 s j (((sri s (nS s)).take k).foldl (fst1 s j) none) ((sri s (nS s)).getD k 0) = some ((sri s (nS s)).getD k 0) := by rw [hfo]; rfl
            refine a_ifnullN cx (tgt := 93) dX2_fetch_76 (by decide) ?_
            refine a_aload cx dX2_fetch_93 rfl ?_
            refine a_goto cx (tgt := 99) dX2_fetch_95 (by decide) ?_
            refine a_astore_n cx dX2_fetch_99 (Nat.le_of_ble_eq_true rfl) rfl ?_
            refine a_goto cx (tgt := 53) dX2_fetch_100 (by decide) ?_
            have hgo := ih (k + 1) (nI k) h4 (by omega) (by omega) hs4 hit4
            rw [fold_up d0, e1] at hgo
            refine AW.widen ?_ ?_ (AW.loc ?_ hgo)
            · omega
            · omega
            · exact ⟨rfl, rfl, rfl, rfl, rfl, trivial⟩
          · have hb : b < nS s := (fold_mem _ _ _ hfo).elim (fun z => sri_mem (List.mem_of_mem_take z)) (fun z => by cases z)
            have hshb := hF4.sh hb
            refine a_ifnull cx dX2_fetch_76 ?_
            refine a_aload cx dX2_fetch_79 rfl ?_
            refine a_aload_n cx dX2_fetch_81 rfl ?_
            refine c_VD (na := 1) cx (f8_distancesh (w2 := 0) (u2 := 0) cx.htr hsh (hF4.hu hj)) (lw_meth q648) (List.mem_of_getElem? (i := 0) rfl) (List.mem_of_getElem? (i := 1) rfl) q644 q646 q107 (by decide +kernel) (RN.of rfl rfl rfl rfl) rfl (by decide +kernel) hsh rfl rfl rfl (Nat.le_of_ble_eq_true rfl) dX2_fetch_82 (by omega) (by omega) (pK ?_)
            refine AW.topi (show _ = far s ((sri s (nS s)).getD k 0) j from rfl) ?_
            refine a_aload_n cx dX2_fetch_85 rfl ?_
            refine a_aload_n cx dX2_fetch_86 rfl ?_
            refine c_VD (na := 1) cx (f8_distancesh (w2 := 0) (u2 := 0) cx.htr hshb (hF4.hu hj)) (lw_meth q648) (List.mem_of_getElem? (i := 0) rfl) (List.mem_of_getElem? (i := 1) rfl) q644 q646 q107 (by decide +kernel) (RN.of rfl rfl rfl rfl) rfl (by decide +kernel) hshb rfl rfl rfl (Nat.le_of_ble_eq_true rfl) dX2_fetch_87 (by omega) (by omega) (pK ?_)
            refine AW.topi (show _ = far s (b) j from rfl) ?_
            refine a_icmp_ge cx (tgt := 98) dX2_fetch_90 (by decide) (fun c90 => ?_) (fun c90 => ?_)
            · have e1 : fst1 s j (((sri s (nS s)).take k).foldl (fst1 s j) none) ((sri s (nS s)).getD k 0) = some b := by rw [hfo]; exact if_neg (Int32.not_lt.mpr c90)
              refine a_aload_n cx dX2_fetch_98 rfl ?_
              refine a_astore_n cx dX2_fetch_99 (Nat.le_of_ble_eq_true rfl) rfl ?_
              refine a_goto cx (tgt := 53) dX2_fetch_100 (by decide) ?_
              have hgo := ih (k + 1) (nI k) h4 (by omega) (by omega) hs4 hit4
              rw [fold_up d0, e1] at hgo
              refine AW.widen ?_ ?_ (AW.loc ?_ hgo)
              · omega
              · omega
              · exact ⟨rfl, rfl, rfl, rfl, rfl, trivial⟩
            · have e1 : fst1 s j (((sri s (nS s)).take k).foldl (fst1 s j) none) ((sri s (nS s)).getD k 0) = some ((sri s (nS s)).getD k 0) := by rw [hfo]; exact if_pos (Int32.not_le.mp c90)
              refine a_aload cx dX2_fetch_93 rfl ?_
              refine a_goto cx (tgt := 99) dX2_fetch_95 (by decide) ?_
              refine a_astore_n cx dX2_fetch_99 (Nat.le_of_ble_eq_true rfl) rfl ?_
              refine a_goto cx (tgt := 53) dX2_fetch_100 (by decide) ?_
              have hgo := ih (k + 1) (nI k) h4 (by omega) (by omega) hs4 hit4
              rw [fold_up d0, e1] at hgo
              refine AW.widen ?_ ?_ (AW.loc ?_ hgo)
              · omega
              · omega
              · exact ⟨rfl, rfl, rfl, rfl, rfl, trivial⟩
    exact AW.widen (by omega) (by omega) (AW.loc (show lle [some (.ref f), some (.int (nI d1)), some (.ref (lh.getD j 0)), some (va_rf (rfo ls (((sri s (nS s)).take 0).foldl (fst1 s j) none))), some (.ref it), none] _ from ⟨rfl, rfl, rfl, rfl, rfl, trivial⟩) (loop ((sri s (nS s)).length + 1) 0 (-1) _ (Nat.zero_le _) (by omega) (sub.new n48) (hset_s _ _ _)))
