/-! ArrayList.add -/
set_option maxRecDepth 100000
def growN (cap : Nat) : Nat := if cap = 0 then 10 else cap + max 1 (cap / 2)
/-- the heap behind grow: a new array at the end -/
def growH (h : AH) (a e cap : Nat) : AH := if cap = 0 then sP (nw h 108 10) a 1 (hX h) else sP (cpP (nw h 108 (growN cap)) e 0 (hX h) 0 cap) a 1 (hX h)
theorem growN_lt {cap : Nat} (h : cap ≤ 210) : growN cap < 400 ∧ cap < growN cap ∧ 10 ≤ growN cap ∨ growN cap < 400 ∧ cap < growN cap := by
  unfold growN
  by_cases c : cap = 0
  · rw [if_pos c]; omega
  · rw [if_neg c]; omega
theorem c_grow2 {h : AH} (w : WF h) {a e n : Nat} (z : AL h a e n n) : Con mJ2_grow_2 4 1 400 [.ref a, .int (nI (n + 1))] h (retH (some (.ref (hX h))) (growH h a e n)) nox := by
  have hx := w.x
  have ha81 := z.a81
  have h100 := z.n100
  have hax : a < hX h := w.lt (by rw [z.k]; decide)
  refine Con.of rfl rfl (Nat.le_of_ble_eq_true rfl) ?_
  refine s_aload_n 0 dJ2_grow_2_0 rfl rfl ?_
  refine s_getP dJ2_grow_2_1 fl_J2_9 (fo_22_1.at z.k) z.p ?_
  refine s_alen (j := 8) dJ2_grow_2_4 z.ke rfl z.ne ?_
  refine s_istore_n (ls' := [(2, _), (0, _), (1, _)]) 2 dJ2_grow_2_5 rfl (by decide) rfl ?_
  refine s_iload_n 2 dJ2_grow_2_6 rfl rfl ?_
  refine s_if_gt 20 dJ2_grow_2_7 (by decide) (fun c7 => ?_) (fun c7 => ?_)
  · skip
    refine s_iload_n 2 dJ2_grow_2_20 rfl rfl ?_
    refine s_iload_n 1 dJ2_grow_2_21 rfl rfl ?_
    refine s_iload_n 2 dJ2_grow_2_22 rfl rfl ?_
    refine s_isub dJ2_grow_2_23 ?_
    refine s_iload_n 2 dJ2_grow_2_24 rfl rfl ?_
    refine s_iconst (v := 1) dJ2_grow_2_25 rfl ?_
    refine s_ishr dJ2_grow_2_26 ?_
    have hn0 : 0 < n := by
      rcases Nat.eq_zero_or_pos n with y | y
      · subst y; exact absurd c7 (by decide)
      · exact y
    have es : nI (n + 1) - nI n = nI 1 := by rw [pk_sub (by omega)]; congr 1; omega
    have er : nI n >>> ((1 : Int32) &&& 31) = nI (n / 2) := by
      have k := pk_shrN (n := n) (by omega) ((1 : Int32) &&& 31) 1 (by decide)
      rw [Nat.pow_one] at k
      exact k
    have eg : growN n = n + max 1 (n / 2) := if_neg (by omega)
    rw [es, er]
    have em : maxJ (nI 1) (nI (n / 2)) = nI (max 1 (n / 2)) := maxJ_nI (by omega) (by omega)
    have ea : nI n + maxJ (nI 1) (nI (n / 2)) = nI (growN n) := by rw [em, nI_pl, eg]
    have hs1 : 0 < nI n + maxJ (nI 1) (nI (n / 2)) := by rw [ea]; exact nI_lt (a := 0) (by omega) (by omega)
    have hs2 : nI n + maxJ (nI 1) (nI (n / 2)) ≤ 2147483639 := by rw [ea]; exact nI_le (b := 2147483639) (by omega) (by decide)
    refine s_callS_p (M2 := mJ12_newLength) dJ2_grow_2_27 q974 stJ12_newLength rfl (c_newLength _ _ _ hs1 hs2) rfl rfl ⟨by decide, by decide, by decide⟩ (Nat.le_of_ble_eq_true rfl) ?_
    rw [ea]
    refine s_istore_n (ls' := [(3, _), (2, _), (0, _), (1, _)]) 3 dJ2_grow_2_30 rfl (by decide) rfl ?_
    refine s_aload_n 0 dJ2_grow_2_31 rfl rfl ?_
    refine s_aload_n 0 dJ2_grow_2_32 rfl rfl ?_
    refine s_getP dJ2_grow_2_33 fl_J2_9 (fo_22_1.at z.k) z.p ?_
    refine s_iload_n 3 dJ2_grow_2_36 rfl rfl ?_
    refine s_callS (M2 := mJ13_copyOf) dJ2_grow_2_37 q982 stJ13_copyOf rfl (c_copyOf w e n (growN n) z.ke z.ne (by omega) (by omega) (fun k hk _ => z.el hk)) rfl rfl ⟨by decide, by decide, (by omega)⟩ (Nat.le_of_ble_eq_true rfl) (fun v1 h1 z1 => ?_) (fun _ _ z => z.elim)
    obtain ⟨rfl, rfl⟩ := z1
    have hkA : hK (cpP (nw h 108 (growN n)) e 0 (hX h) 0 n) a = 22 := (hK_nwn (n := growN n) (by omega)).trans z.k
    refine s_dup_x1 dJ2_grow_2_40 rfl rfl ?_
    refine s_putP dJ2_grow_2_41 fl_J2_9 (fo_22_1.at hkA) (by omega) (Or.inl (fn_at hkA rfl)) ?_
    exact s_areturn (.array (.object "java/lang/Object")) dJ2_grow_2_44 rfl (Or.inr ⟨_, rfl⟩) ⟨rfl, by unfold growH; rw [if_neg (by omega)]⟩
  · skip
    refine s_aload_n 0 dJ2_grow_2_10 rfl rfl ?_
    refine s_getP dJ2_grow_2_11 fl_J2_9 (fo_22_1.at z.k) z.p ?_
    have hn0 : n = 0 := by
      rcases Nat.eq_zero_or_pos n with y | y
      · exact y
      · exact absurd (nI_lt y (by omega)) c7
    refine s_gets (v := .ref 2) dJ2_grow_2_14 q180 (fun g hg => hg.2.2.2.2.1) ?_
    refine s_acmp_eq 45 dJ2_grow_2_17 (by decide) ⟨z.e0, by decide⟩ (Or.inl (z.e2 hn0)) (fun c17 => ?_) (fun c17 => ?_)
    · skip
      refine s_aload_n 0 dJ2_grow_2_45 rfl rfl ?_
      refine s_bipush (v := 10) dJ2_grow_2_46 rfl ?_
      refine s_iload_n 1 dJ2_grow_2_48 rfl rfl ?_
      have em : maxJ 10 (nI (n + 1)) = nI 10 := by subst hn0; decide
      refine s_mmax dJ2_grow_2_49 q1023 (by decide) (Nat.le_of_ble_eq_true rfl) ?_
      rw [em]
      refine s_newq 10 8 (hX h) dJ2_grow_2_52 rfl q1024 q1019 rfl (by decide) rfl (by decide) (by decide) ?_
      have hkA : hK (nw h 108 10) a = 22 := (hK_nwn (by omega)).trans z.k
      refine s_dup_x1 dJ2_grow_2_55 rfl rfl ?_
      refine s_putP dJ2_grow_2_56 fl_J2_9 (fo_22_1.at hkA) (by omega) (Or.inl (fn_at hkA rfl)) ?_
      exact s_areturn (.array (.object "java/lang/Object")) dJ2_grow_2_59 rfl (Or.inr ⟨_, rfl⟩) ⟨rfl, by unfold growH; rw [if_pos hn0]⟩
    · exact absurd (z.e2 hn0) c17
theorem c_grow {h : AH} (w : WF h) {a e n : Nat} (z : AL h a e n n) : Con mJ2_grow 5 1 400 [.ref a] h (retH (some (.ref (hX h))) (growH h a e n)) nox := by
  refine Con.of rfl rfl (Nat.le_of_ble_eq_true rfl) ?_
  refine s_aload_n 0 dJ2_grow_0 rfl rfl ?_
  refine s_aload_n 0 dJ2_grow_1 rfl rfl ?_
  refine s_getI dJ2_grow_2 fl_J2_48 (fo_22_2.at z.k) ?_
  rw [z.sz]
  refine s_iconst (v := 1) dJ2_grow_5 rfl ?_
  refine s_iadd dJ2_grow_6 ?_
  rw [← nI_succ]
  refine s_callV (M2 := mJ2_grow_2) dJ2_grow_7 q970 bJ2_grow_2 inJ2_grow_2.2 qs31 rfl (c_grow2 w z) rfl rfl (rk z.k rfl rfl) ⟨by decide, by decide, by decide⟩ (Nat.le_of_ble_eq_true rfl) (fun v1 h1 z1 => ?_) (fun _ _ z => z.elim)
  obtain ⟨rfl, rfl⟩ := z1
  exact s_areturn (.array (.object "java/lang/Object")) dJ2_grow_10 rfl (Or.inr ⟨_, rfl⟩) ⟨rfl, rfl⟩
/-- the heap behind add's inner part -/
def addI (h : AH) (a e cap n x : Nat) : AH := if n = cap then sI (sP (growH h a e cap) (hX h) n x) a 2 (nI (n + 1)) else sI (sP h e n x) a 2 (nI (n + 1))
theorem growH_0 {h : AH} {a e cap : Nat} (c : cap = 0) : growH h a e cap = sP (nw h 108 10) a 1 (hX h) := if_pos c
theorem growH_1 {h : AH} {a e cap : Nat} (c : ¬ cap = 0) : growH h a e cap = sP (cpP (nw h 108 (growN cap)) e 0 (hX h) 0 cap) a 1 (hX h) := if_neg c
theorem growH_K {h : AH} {a e cap b : Nat} (hb : b ≠ hX h) : hK (growH h a e cap) b = hK h b ∧ hN (growH h a e cap) b = hN h b := by
  by_cases c : cap = 0
  · rw [growH_0 c]; exact ⟨hK_nwn (n := 10) hb, hN_nwn (k := 108) hb⟩
  · rw [growH_1 c]; exact ⟨hK_nwn (n := growN cap) hb, hN_nwn (k := 108) hb⟩
theorem growH_X {h : AH} {a e cap : Nat} : hK (growH h a e cap) (hX h) = 108 ∧ hN (growH h a e cap) (hX h) = growN cap ∧ hX (growH h a e cap) = hX h + 1 := by
  by_cases c : cap = 0
  · rw [growH_0 c]; exact ⟨hK_nw (n := 10), (hN_nw (k := 108)).trans (by unfold growN; rw [if_pos c]), rfl⟩
  · rw [growH_1 c]; exact ⟨hK_nw (n := growN cap), hN_nw (k := 108), rfl⟩
theorem c_add2 {h : AH} (w : WF h) {a e cap n : Nat} (z : AL h a e cap n) (hn : n < 100) (x : Nat) (hxx : obK (hK h x)) : Con mJ2_add_2 6 1 400 [.ref a, .ref x, .ref e, .int (nI n)] h (retH none (addI h a e cap n x)) nox := by
  have hx := w.x
  have ha81 := z.a81
  have hle := z.le
  have hcp := z.cp
  have hax : a < hX h := w.lt (by rw [z.k]; decide)
  have hxl : x < hX h := w.lt hxx.n0
  refine Con.of rfl rfl (Nat.le_of_ble_eq_true rfl) ?_
  refine s_iload_n 3 dJ2_add_2_0 rfl rfl ?_
  refine s_aload_n 2 dJ2_add_2_1 rfl rfl ?_
  refine s_alen (j := 8) dJ2_add_2_2 z.ke rfl z.ne ?_
  refine s_icmp_ne 11 dJ2_add_2_3 (by decide) (fun c3 => ?_) (fun c3 => ?_)
  · skip
    refine s_aload_n 2 dJ2_add_2_11 rfl rfl ?_
    refine s_iload_n 3 dJ2_add_2_12 rfl rfl ?_
    refine s_aload_n 1 dJ2_add_2_13 rfl rfl ?_
    have hnc : n < cap := by
      rcases Nat.lt_or_ge n cap with y | y
      · exact y
      · exact absurd (by rw [show n = cap by omega]) c3
    refine s_aast (j := n) (jj := 8) dJ2_add_2_14 z.ke rfl (by have := z.e81 (by omega); omega) (ixn z.ne (ix_nI hnc (by omega))) (fun _ => Or.inl (obCa hxx)) ?_
    refine s_aload_n 0 dJ2_add_2_15 rfl rfl ?_
    refine s_iload_n 3 dJ2_add_2_16 rfl rfl ?_
    refine s_iconst (v := 1) dJ2_add_2_17 rfl ?_
    refine s_iadd dJ2_add_2_18 ?_
    rw [← nI_succ]
    refine s_putJ dJ2_add_2_19 fl_J2_48 (fo_22_2.at z.k) (by omega) (Or.inl (fn_at z.k rfl)) (ty_at z.k rfl) ?_
    exact s_return dJ2_add_2_22 rfl ⟨rfl, by unfold addI; rw [if_neg (by omega)]⟩
  · skip
    refine s_aload_n 0 dJ2_add_2_6 rfl rfl ?_
    have hnc : n = cap := nI_inj (by omega) (by omega) c3
    subst hnc
    refine s_callV (M2 := mJ2_grow) dJ2_add_2_7 q966 bJ2_grow inJ2_grow.2 qs30 rfl (c_grow w z) rfl rfl (rk z.k rfl rfl) ⟨by decide, by decide, by decide⟩ (Nat.le_of_ble_eq_true rfl) (fun v1 h1 z1 => ?_) (fun _ _ z => z.elim)
    obtain ⟨rfl, rfl⟩ := z1
    have hkA : hK (growH h a e n) a = 22 := (growH_K (by omega)).1.trans z.k
    have hgn := growN_lt (cap := n) (by omega)
    refine s_astore_n (ls' := [(2, _), (0, _), (1, _), (3, _)]) 2 dJ2_add_2_10 rfl (by decide) rfl ?_
    refine s_aload_n 2 dJ2_add_2_11 rfl rfl ?_
    refine s_iload_n 3 dJ2_add_2_12 rfl rfl ?_
    refine s_aload_n 1 dJ2_add_2_13 rfl rfl ?_
    refine s_aast (j := n) (jj := 8) dJ2_add_2_14 growH_X.1 rfl (by omega) (ixn growH_X.2.1 (ix_nI (by omega) (by omega))) (fun _ => Or.inl (obCa (by rw [(growH_K (by omega)).1]; exact hxx))) ?_
    refine s_aload_n 0 dJ2_add_2_15 rfl rfl ?_
    refine s_iload_n 3 dJ2_add_2_16 rfl rfl ?_
    refine s_iconst (v := 1) dJ2_add_2_17 rfl ?_
    refine s_iadd dJ2_add_2_18 ?_
    rw [← nI_succ]
    refine s_putJ dJ2_add_2_19 fl_J2_48 (fo_22_2.at hkA) (by omega) (Or.inl (fn_at hkA rfl)) (ty_at hkA rfl) ?_
    exact s_return dJ2_add_2_22 rfl ⟨rfl, by unfold addI; rw [if_pos rfl]⟩
theorem AL.s0 {h : AH} {a e cap n : Nat} {v : Int32} (z : AL h a e cap n) : AL (sI h a 0 v) a e cap n := by
  obtain ⟨z1, z2, z3, z4, z5, z6, z7, z8⟩ := z
  exact ⟨z1, z2, z3, z4, z5, z6, (hI_sI_ne (by omega)).trans z7, z8⟩
theorem c_add {h : AH} (w : WF h) {a e cap n : Nat} (z : AL h a e cap n) (hn : n < 100) (x : Nat) (hxx : obK (hK h x)) : Con mJ2_add 7 1 400 [.ref a, .ref x] h (retH (some (.int 1)) (addI (sI h a 0 (hI h a 0 + 1)) a e cap n x)) nox := by
  have ha81 := z.a81
  refine Con.of rfl rfl (Nat.le_of_ble_eq_true rfl) ?_
  refine s_aload_n 0 dJ2_add_0 rfl rfl ?_
  refine s_dup dJ2_add_1 rfl ?_
  refine s_getI dJ2_add_2 fl_J2_63 (fo_22_0.at z.k) ?_
  refine s_iconst (v := 1) dJ2_add_5 rfl ?_
  refine s_iadd dJ2_add_6 ?_
  refine s_putJ dJ2_add_7 fl_J2_63 (fo_22_0.at z.k) (by omega) (Or.inl (fn_at z.k rfl)) (ty_at z.k rfl) ?_
  refine s_aload_n 0 dJ2_add_10 rfl rfl ?_
  refine s_aload_n 1 dJ2_add_11 rfl rfl ?_
  refine s_aload_n 0 dJ2_add_12 rfl rfl ?_
  refine s_getP dJ2_add_13 fl_J2_9 (fo_22_1.at z.k) z.p ?_
  refine s_aload_n 0 dJ2_add_16 rfl rfl ?_
  refine s_getI dJ2_add_17 fl_J2_48 (fo_22_2.at z.k) ?_
  rw [show hI (sI h a 0 (hI h a 0 + 1)) a 2 = nI n from z.s0.sz]
  refine s_callV (M2 := mJ2_add_2) dJ2_add_20 q962 bJ2_add_2 inJ2_add_2.2 qs29 rfl (c_add2 (h := sI h a 0 (hI h a 0 + 1)) w z.s0 hn x hxx) rfl rfl (rk z.k rfl rfl) ⟨by decide, by decide, by decide⟩ (Nat.le_of_ble_eq_true rfl) (fun v1 h1 z1 => ?_) (fun _ _ z => z.elim)
  obtain ⟨rfl, rfl⟩ := z1
  refine s_iconst (v := 1) dJ2_add_23 rfl ?_
  exact s_ireturn .boolean dJ2_add_24 rfl rfl ⟨rfl, rfl⟩
/-- what holds behind an add: the list is one longer, in its old array or a new one; all that is elsewhere stays -/
theorem AL.added {h : AH} (w : WF h) {a e cap n : Nat} (z : AL h a e cap n) (hn : n < 100) {x : Nat} (hxx : obK (hK h x)) :
    ∃ e' cap', AL (addI (sI h a 0 (hI h a 0 + 1)) a e cap n x) a e' cap' (n + 1) ∧ (e' = e ∧ 81 ≤ e ∨ e' = hX h) ∧
      (∀ k, k < n → hP (addI (sI h a 0 (hI h a 0 + 1)) a e cap n x) e' k = hP h e k) ∧ hP (addI (sI h a 0 (hI h a 0 + 1)) a e cap n x) e' n = x := by
  have hx := w.x
  have ha81 := z.a81
  have hcp := z.cp
  have hle := z.le
  have hax : a < hX h := w.lt (by rw [z.k]; decide)
  have hex : e < hX h := w.lt (by rw [z.ke]; decide)
  have hae := z.ae
  have hxl : x < hX h := w.lt hxx.n0
  have helt : ∀ k, k < n → hP h e k < hX h := fun k hk => w.lt (z.el hk).n0
  unfold addI
  by_cases c : n = cap
  · rw [if_pos c]
    subst c
    have hX0 : hX (sI h a 0 (hI h a 0 + 1)) = hX h := rfl
    rw [hX0]
    have g1 := growH_X (h := sI h a 0 (hI h a 0 + 1)) (a := a) (e := e) (cap := n)
    have gk := fun b (hb : b ≠ hX h) => growH_K (h := sI h a 0 (hI h a 0 + 1)) (a := a) (e := e) (cap := n) (b := b) hb
    have hgn := growN_lt (cap := n) (by omega)
    have hgu : growN n ≤ 10 + 2 * (n + 1) := by unfold growN; split <;> omega
    have hPe : ∀ k, k < n → hP (growH (sI h a 0 (hI h a 0 + 1)) a e n) (hX h) k = hP h e k := by
      intro k hk
      rw [growH_1 (by omega), hX0, hP_sP_ne (by omega), hP_cpP, if_pos ⟨rfl, by omega, by omega⟩, hP_nwn (by rw [hX0]; omega)]
      rw [show 0 + (k - 0) = k by omega]
      rfl
    have hPa : hP (growH (sI h a 0 (hI h a 0 + 1)) a e n) a 1 = hX h := by
      by_cases cc : n = 0
      · rw [growH_0 cc, hX0, hP_sP]
      · rw [growH_1 cc, hX0, hP_sP]
    refine ⟨hX h, growN n, ⟨?_, ha81, ?_, g1.1, Or.inr ⟨by omega, by omega⟩, g1.2.1, hI_sI, by omega, by omega, by omega, fun k hk => ?_⟩, Or.inr rfl, fun k hk => ?_, hP_sP⟩
    · exact (gk a (by omega)).1.trans z.k
    · show hP (sP _ (hX h) n x) a 1 = hX h
      rw [hP_sP_ne (by omega)]
      exact hPa
    · show obK (hK (growH _ a e n) (hP (sP (growH (sI h a 0 (hI h a 0 + 1)) a e n) (hX h) n x) (hX h) k))
      by_cases ck : k = n
      · subst ck
        rw [hP_sP, (gk x (by omega)).1]
        exact hxx
      · rw [hP_sP_ne (by omega), hPe k (by omega), (gk _ (by have := helt k (by omega); omega)).1]
        exact z.el (by omega)
    · show hP (sP _ (hX h) n x) (hX h) k = _
      rw [hP_sP_ne (by omega)]
      exact hPe k hk
  · rw [if_neg c]
    refine ⟨e, cap, ⟨z.k, ha81, ?_, z.ke, z.2.2.2.2.1, z.ne, hI_sI, by omega, by omega, by omega, fun k hk => ?_⟩, Or.inl ⟨rfl, z.e81 (by omega)⟩, fun k hk => ?_, hP_sP⟩
    · show hP (sP _ e n x) a 1 = e
      rw [hP_sP_ne (by omega)]
      exact z.p
    · show obK (hK h (hP (sP (sI h a 0 (hI h a 0 + 1)) e n x) e k))
      by_cases ck : k = n
      · subst ck
        rw [hP_sP]
        exact hxx
      · rw [hP_sP_ne (by omega)]
        exact z.el (by omega)
    · show hP (sP _ e n x) e k = _
      rw [hP_sP_ne (by omega)]
      rfl
