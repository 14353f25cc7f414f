/-! ArrayList: the JDK's own methods -/
set_option maxRecDepth 100000
def obK (k : Nat) : Prop := k = 17 ∨ k = 19 ∨ k = 20 ∨ k = 21
theorem obCa {k : Nat} (h : obK k) : Ca k "java/lang/Object" := by
  rcases h with e | e | e | e <;> subst e
  · exact ⟨rfl, q1785⟩
  · exact ⟨rfl, q1786⟩
  · exact ⟨rfl, q1787⟩
  · exact ⟨rfl, q1788⟩
theorem obK.n0 {k : Nat} (h : obK k) : k ≠ 0 := by rcases h with e | e | e | e <;> omega
/-- a list at a: its array e of cap places, n of them in use, by things that a parish is made of -/
def AL (h : AH) (a e cap n : Nat) : Prop := hK h a = 22 ∧ 81 ≤ a ∧ hP h a 1 = e ∧ hK h e = 108 ∧ (e = 2 ∧ cap = 0 ∨ 81 ≤ e ∧ 0 < cap) ∧ hN h e = cap ∧ hI h a 2 = nI n ∧ n ≤ cap ∧ cap ≤ 10 + 2 * n ∧ n ≤ 100 ∧ ∀ k, k < n → obK (hK h (hP h e k))
section SAL
variable {h : AH} {a e cap n : Nat}
theorem AL.k (z : AL h a e cap n) : hK h a = 22 := z.1
theorem AL.a81 (z : AL h a e cap n) : 81 ≤ a := z.2.1
theorem AL.p (z : AL h a e cap n) : hP h a 1 = e := z.2.2.1
theorem AL.ke (z : AL h a e cap n) : hK h e = 108 := z.2.2.2.1
theorem AL.ne (z : AL h a e cap n) : hN h e = cap := z.2.2.2.2.2.1
theorem AL.sz (z : AL h a e cap n) : hI h a 2 = nI n := z.2.2.2.2.2.2.1
theorem AL.le (z : AL h a e cap n) : n ≤ cap := z.2.2.2.2.2.2.2.1
theorem AL.cp (z : AL h a e cap n) : cap ≤ 10 + 2 * n := z.2.2.2.2.2.2.2.2.1
theorem AL.n100 (z : AL h a e cap n) : n ≤ 100 := z.2.2.2.2.2.2.2.2.2.1
theorem AL.el (z : AL h a e cap n) {k : Nat} (hk : k < n) : obK (hK h (hP h e k)) := z.2.2.2.2.2.2.2.2.2.2 k hk
theorem AL.e0 (z : AL h a e cap n) : e ≠ 0 := by rcases z.2.2.2.2.1 with y | y <;> omega
theorem AL.e2 (z : AL h a e cap n) (hc : cap = 0) : e = 2 := by rcases z.2.2.2.2.1 with y | y <;> omega
theorem AL.e81 (z : AL h a e cap n) (hc : 0 < cap) : 81 ≤ e := by rcases z.2.2.2.2.1 with y | y <;> omega
theorem AL.ae (z : AL h a e cap n) : a ≠ e := fun y => by have h1 := z.k; have h2 := z.ke; rw [y] at h1; omega
end SAL
theorem c_ACinit (a : Nat) (h : AH) (h0 : a ≠ 0) : Con mJ0_init 1 0 0 [.ref a] h (retH none h) nox := by
  refine Con.of rfl rfl (Nat.le_of_ble_eq_true rfl) ?_
  refine s_aload_n 0 dJ0_init_0 rfl rfl ?_
  refine s_objInit dJ0_init_1 q179 h0 (by decide) (Nat.le_of_ble_eq_true rfl) ?_
  exact s_return dJ0_init_4 rfl ⟨rfl, rfl⟩
theorem c_ABinit (a : Nat) (h : AH) (hk : hK h a = 22) (h16 : 16 ≤ a) : Con mJ1_init 2 0 0 [.ref a] h (retH none (sI h a 0 0)) nox := by
  refine Con.of rfl rfl (Nat.le_of_ble_eq_true rfl) ?_
  refine s_aload_n 0 dJ1_init_0 rfl rfl ?_
  refine s_callI (M2 := mJ0_init) dJ1_init_1 q176 inJ0_init ⟨rfl, rfl, rfl⟩ (c_ACinit a h (by omega)) rfl rfl (by omega) ⟨by decide, by decide, by decide⟩ (Nat.le_of_ble_eq_true rfl) (fun v1 h1 z1 => ?_) (fun _ _ z => z.elim)
  obtain ⟨rfl, rfl⟩ := z1
  refine s_aload_n 0 dJ1_init_4 rfl rfl ?_
  refine s_iconst (v := 0) dJ1_init_5 rfl ?_
  refine s_putJ dJ1_init_6 fl_J1_7 (fo_22_0.at hk) h16 (Or.inl (fn_at hk rfl)) (ty_at hk rfl) ?_
  exact s_return dJ1_init_9 rfl ⟨rfl, rfl⟩
theorem c_ALinit (a : Nat) (h : AH) (hk : hK h a = 22) (h16 : 16 ≤ a) : Con mJ2_init 3 0 0 [.ref a] h (retH none (sP (sI h a 0 0) a 1 2)) nox := by
  refine Con.of rfl rfl (Nat.le_of_ble_eq_true rfl) ?_
  refine s_aload_n 0 dJ2_init_0 rfl rfl ?_
  refine s_callI (M2 := mJ1_init) dJ2_init_1 q173 inJ1_init ⟨rfl, rfl, rfl⟩ (c_ABinit a h hk h16) rfl rfl (by omega) ⟨by decide, by decide, by decide⟩ (Nat.le_of_ble_eq_true rfl) (fun v1 h1 z1 => ?_) (fun _ _ z => z.elim)
  obtain ⟨rfl, rfl⟩ := z1
  refine s_aload_n 0 dJ2_init_4 rfl rfl ?_
  refine s_gets (v := .ref 2) dJ2_init_5 q180 (fun g hg => hg.2.2.2.2.1) ?_
  refine s_putP dJ2_init_8 fl_J2_9 (fo_22_1.at hk) h16 (Or.inl (fn_at hk rfl)) ?_
  exact s_return dJ2_init_11 rfl ⟨rfl, rfl⟩
theorem c_ALsize {h : AH} {a e cap n : Nat} (z : AL h a e cap n) : Con mJ2_size 0 0 0 [.ref a] h (retV (.int (nI n)) h) nox := by
  refine Con.of rfl rfl (Nat.le_of_ble_eq_true rfl) ?_
  refine s_aload_n 0 dJ2_size_0 rfl rfl ?_
  refine s_getI dJ2_size_1 fl_J2_48 (fo_22_2.at z.k) ?_
  exact s_ireturn .int dJ2_size_4 rfl rfl (rve z.sz.symm)
theorem c_chk0 {h : AH} (k n : Nat) (hk : k < n) (hn : n < 2 ^ 31) : Con mJ4_checkIndex 0 0 0 [.int (nI k), .int (nI n), .ref 0] h (retV (.int (nI k)) h) nox := by
  refine Con.of rfl rfl (Nat.le_of_ble_eq_true rfl) ?_
  refine s_iload_n 0 dJ4_checkIndex_0 rfl rfl ?_
  refine s_if_lt 9 dJ4_checkIndex_1 (by decide) (fun c1 => ?_) (fun c1 => ?_)
  · exact absurd c1 (nI_pos (by omega))
  · skip
    refine s_iload_n 0 dJ4_checkIndex_4 rfl rfl ?_
    refine s_iload_n 1 dJ4_checkIndex_5 rfl rfl ?_
    refine s_icmp_lt 16 dJ4_checkIndex_6 (by decide) (fun c6 => ?_) (fun c6 => ?_)
    · skip
      refine s_iload_n 0 dJ4_checkIndex_16 rfl rfl ?_
      exact s_ireturn .int dJ4_checkIndex_17 rfl rfl ⟨rfl, rfl⟩
    · exact absurd (nI_lt hk hn) c6
theorem c_chkR {h : AH} (k n : Nat) (hk : k < n) (hn : n < 2 ^ 31) : Con mJ4_checkIndex 0 0 0 [.int (nI k), .int (nI n), .retAddr 0] h (retV (.int (nI k)) h) nox := by
  refine Con.of rfl rfl (Nat.le_of_ble_eq_true rfl) ?_
  refine s_iload_n 0 dJ4_checkIndex_0 rfl rfl ?_
  refine s_if_lt 9 dJ4_checkIndex_1 (by decide) (fun c1 => ?_) (fun c1 => ?_)
  · exact absurd c1 (nI_pos (by omega))
  · skip
    refine s_iload_n 0 dJ4_checkIndex_4 rfl rfl ?_
    refine s_iload_n 1 dJ4_checkIndex_5 rfl rfl ?_
    refine s_icmp_lt 16 dJ4_checkIndex_6 (by decide) (fun c6 => ?_) (fun c6 => ?_)
    · skip
      refine s_iload_n 0 dJ4_checkIndex_16 rfl rfl ?_
      exact s_ireturn .int dJ4_checkIndex_17 rfl rfl ⟨rfl, rfl⟩
    · exact absurd (nI_lt hk hn) c6
theorem c_chk {h : AH} (k n : Nat) (hk : k < n) (hn : n < 2 ^ 31) : Con mJ3_checkIndex 1 0 0 [.int (nI k), .int (nI n)] h (retV (.int (nI k)) h) nox := by
  refine Con.of rfl rfl (Nat.le_of_ble_eq_true rfl) ?_
  refine s_iload_n 0 dJ3_checkIndex_0 rfl rfl ?_
  refine s_iload_n 1 dJ3_checkIndex_1 rfl rfl ?_
  refine s_null dJ3_checkIndex_2 ?_
  refine s_callS_p (M2 := mJ4_checkIndex) dJ3_checkIndex_3 q543 stJ4_checkIndex rfl (c_chk0 k n hk hn) rfl rfl ⟨by decide, by decide, by decide⟩ (Nat.le_of_ble_eq_true rfl) ?_
  exact s_ireturn .int dJ3_checkIndex_6 rfl rfl ⟨rfl, rfl⟩
theorem c_ALel {h : AH} {a e cap n : Nat} (z : AL h a e cap n) (k : Nat) (hk : k < n) : Con mJ2_elementData 0 0 0 [.ref a, .int (nI k)] h (retV (.ref (hP h e k)) h) nox := by
  have hkn : k < cap := by have := z.le; omega
  have hcc := z.cp
  have hnn := z.n100
  refine Con.of rfl rfl (Nat.le_of_ble_eq_true rfl) ?_
  refine s_aload_n 0 dJ2_elementData_0 rfl rfl ?_
  refine s_getP dJ2_elementData_1 fl_J2_9 (fo_22_1.at z.k) z.p ?_
  refine s_iload_n 1 dJ2_elementData_4 rfl rfl ?_
  refine s_aald (j := k) (jj := 8) dJ2_elementData_5 z.ke rfl (ixn z.ne (ix_nI (by have := z.le; omega) (by have := z.cp; have := z.n100; omega))) rfl ?_
  exact s_areturn (.object "java/lang/Object") dJ2_elementData_6 rfl (Or.inl ⟨_, rfl⟩) ⟨rfl, rfl⟩
theorem c_ALget {h : AH} {a e cap n : Nat} (z : AL h a e cap n) (k : Nat) (hk : k < n) : Con mJ2_get 2 0 0 [.ref a, .int (nI k)] h (retV (.ref (hP h e k)) h) nox := by
  refine Con.of rfl rfl (Nat.le_of_ble_eq_true rfl) ?_
  refine s_iload_n 1 dJ2_get_0 rfl rfl ?_
  refine s_aload_n 0 dJ2_get_1 rfl rfl ?_
  refine s_getI dJ2_get_2 fl_J2_48 (fo_22_2.at z.k) ?_
  rw [z.sz]
  refine s_callS_p (M2 := mJ3_checkIndex) dJ2_get_5 q540 stJ3_checkIndex rfl (c_chk k n hk (by have := z.n100; omega)) rfl rfl ⟨by decide, by decide, by decide⟩ (Nat.le_of_ble_eq_true rfl) ?_
  refine s_pop dJ2_get_8 rfl ?_
  refine s_aload_n 0 dJ2_get_9 rfl rfl ?_
  refine s_iload_n 1 dJ2_get_10 rfl rfl ?_
  refine s_callV_p (M2 := mJ2_elementData) dJ2_get_11 q546 bJ2_elementData inJ2_elementData.2 q548 rfl (c_ALel z k hk) rfl rfl (rk z.k rfl rfl) ⟨by decide, by decide, by decide⟩ (Nat.le_of_ble_eq_true rfl) ?_
  exact s_areturn (.object "java/lang/Object") dJ2_get_14 rfl (Or.inl ⟨_, rfl⟩) ⟨rfl, rfl⟩
theorem maxJ_nI {a b : Nat} (ha : a < 2 ^ 31) (hb : b < 2 ^ 31) : maxJ (nI a) (nI b) = nI (max a b) := by
  unfold maxJ
  by_cases c : a < b
  · rw [if_pos (nI_lt c hb), Nat.max_eq_right (by omega)]
  · rw [if_neg (nI_nlt (by omega) ha), Nat.max_eq_left (by omega)]
theorem minJ_nI {a b : Nat} (ha : a < 2 ^ 31) (hb : b < 2 ^ 31) : minJ (nI a) (nI b) = nI (min a b) := by
  unfold minJ
  by_cases c : b < a
  · rw [if_pos (nI_lt c ha), Nat.min_eq_right (by omega)]
  · rw [if_neg (nI_nlt (by omega) hb), Nat.min_eq_left (by omega)]
theorem c_newLength {h : AH} (x y z : Int32) (h1 : 0 < x + maxJ y z) (h2 : x + maxJ y z ≤ 2147483639) : Con mJ12_newLength 1 0 0 [.int x, .int y, .int z] h (retV (.int (x + maxJ y z)) h) nox := by
  refine Con.of rfl rfl (Nat.le_of_ble_eq_true rfl) ?_
  refine s_iload_n 0 dJ12_newLength_0 rfl rfl ?_
  refine s_iload_n 1 dJ12_newLength_1 rfl rfl ?_
  refine s_iload_n 2 dJ12_newLength_2 rfl rfl ?_
  refine s_mmax dJ12_newLength_3 q977 (by decide) (Nat.le_of_ble_eq_true rfl) ?_
  refine s_iadd dJ12_newLength_6 ?_
  refine s_istore_n (ls' := [(3, _), (0, _), (1, _), (2, _)]) 3 dJ12_newLength_7 rfl (by decide) rfl ?_
  refine s_iconst (v := 0) dJ12_newLength_8 rfl ?_
  refine s_iload_n 3 dJ12_newLength_9 rfl rfl ?_
  refine s_icmp_ge 21 dJ12_newLength_10 (by decide) (fun c10 => ?_) (fun c10 => ?_)
  · exact absurd h1 (Int32.not_lt.mpr c10)
  · skip
    refine s_iload_n 3 dJ12_newLength_13 rfl rfl ?_
    refine s_ldc dJ12_newLength_14 q978 ?_
    refine s_icmp_gt 21 dJ12_newLength_16 (by decide) (fun c16 => ?_) (fun c16 => ?_)
    · exact absurd h2 (Int32.not_le.mpr c16)
    · skip
      refine s_iload_n 3 dJ12_newLength_19 rfl rfl ?_
      exact s_ireturn .int dJ12_newLength_20 rfl rfl ⟨rfl, rfl⟩
theorem c_copyOf2 {h : AH} (w : WF h) (e c N : Nat) (ke : hK h e = 108) (ne : hN h e = c) (hcN : c ≤ N) (hN1 : N < 1000) (hel : ∀ k, k < c → hP h e k ≠ 0 → obK (hK h (hP h e k))) : Con mJ13_copyOf_2 2 1 N [.ref e, .int (nI N), .ref 9] h (retH (some (.ref (hX h))) (cpP (nw h 108 N) e 0 (hX h) 0 c)) nox := by
  have hx := w.x
  have he : e < hX h := w.lt (by omega)
  refine Con.of rfl rfl (Nat.le_of_ble_eq_true rfl) ?_
  refine s_aload_n 2 dJ13_copyOf_2_0 rfl rfl ?_
  refine s_ldcM dJ13_copyOf_2_1 q1018 ?_
  refine s_acmp_ne 13 dJ13_copyOf_2_3 (by decide) ⟨by decide, by decide⟩ (Or.inl rfl) (fun c3 => ?_) (fun c3 => ?_)
  · exact absurd rfl c3
  · skip
    refine s_iload_n 1 dJ13_copyOf_2_6 rfl rfl ?_
    refine s_newq N 8 (hX h) dJ13_copyOf_2_7 rfl q1020 q1019 rfl (by omega) rfl (by decide) (Nat.le_refl _) ?_
    refine s_goto 24 dJ13_copyOf_2_10 (by decide) ?_
    refine s_astore_n (ls' := [(3, _), (0, _), (1, _), (2, _)]) 3 dJ13_copyOf_2_24 rfl (by decide) rfl ?_
    refine s_aload_n 0 dJ13_copyOf_2_25 rfl rfl ?_
    refine s_iconst (v := 0) dJ13_copyOf_2_26 rfl ?_
    refine s_aload_n 3 dJ13_copyOf_2_27 rfl rfl ?_
    refine s_iconst (v := 0) dJ13_copyOf_2_28 rfl ?_
    refine s_aload_n 0 dJ13_copyOf_2_29 rfl rfl ?_
    refine s_alen (j := 8) dJ13_copyOf_2_30 ((hK_nwn (by omega)).trans ke) rfl ((hN_nwn (by omega)).trans ne) ?_
    refine s_iload_n 1 dJ13_copyOf_2_31 rfl rfl ?_
    refine s_mmin dJ13_copyOf_2_32 q1021 (by decide) (Nat.le_of_ble_eq_true rfl) ?_
    rw [minJ_nI (by omega) (by omega), Nat.min_eq_left hcN]
    refine s_copyP (j := 8) 0 0 c dJ13_copyOf_2_35 q1022 ((hK_nwn (by omega)).trans ke) hK_nw rfl (by omega) rfl rfl rfl (by omega) (by rw [hN_nwn (by omega), ne]; omega) (by rw [hN_nw]; omega) (fun i hi hz => Or.inl ?_) (by decide) (Nat.le_of_ble_eq_true rfl) ?_
    · rw [hP_nwn (by omega)] at hz ⊢
      rw [Nat.zero_add] at hz ⊢
      have ho := hel i hi hz
      rw [hK_nwn (by have := w.lt ho.n0; omega)]
      exact obCa ho
    refine s_aload_n 3 dJ13_copyOf_2_38 rfl rfl ?_
    exact s_areturn (.array (.object "java/lang/Object")) dJ13_copyOf_2_39 rfl (Or.inr ⟨_, rfl⟩) ⟨rfl, rfl⟩
theorem c_copyOf {h : AH} (w : WF h) (e c N : Nat) (ke : hK h e = 108) (ne : hN h e = c) (hcN : c ≤ N) (hN1 : N < 1000) (hel : ∀ k, k < c → hP h e k ≠ 0 → obK (hK h (hP h e k))) : Con mJ13_copyOf 3 1 N [.ref e, .int (nI N)] h (retH (some (.ref (hX h))) (cpP (nw h 108 N) e 0 (hX h) 0 c)) nox := by
  refine Con.of rfl rfl (Nat.le_of_ble_eq_true rfl) ?_
  refine s_aload_n 0 dJ13_copyOf_0 rfl rfl ?_
  refine s_iload_n 1 dJ13_copyOf_1 rfl rfl ?_
  refine s_aload_n 0 dJ13_copyOf_2 rfl rfl ?_
  refine s_getC dJ13_copyOf_3 q985 ke (by decide) (Nat.le_of_ble_eq_true rfl) ?_
  refine s_callS (M2 := mJ13_copyOf_2) dJ13_copyOf_6 q1015 stJ13_copyOf_2 rfl (c_copyOf2 w e c N ke ne hcN hN1 hel) rfl rfl ⟨by decide, by decide, Nat.le_refl _⟩ (Nat.le_of_ble_eq_true rfl) (fun v1 h1 z1 => ?_) (fun _ _ z => z.elim)
  obtain ⟨rfl, rfl⟩ := z1
  exact s_areturn (.array (.object "java/lang/Object")) dJ13_copyOf_9 rfl (Or.inr ⟨_, rfl⟩) ⟨rfl, rfl⟩
