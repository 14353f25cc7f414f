/-! days of the component: a day, the time that is tried -/
set_option maxRecDepth 100000
theorem TR.pd {h : AH} {t m : Nat} {e : St} (z : TR h t m e) {q : Nat} (hq : q < m) : hI h (t + 3) q = e (10 * q + 5) := (z.2.2.1 q hq).2.2.2.2.1
theorem TR.dy {h : AH} {t m : Nat} {e : St} (z : TR h t m e) : hI h t 6 = e 62 := z.2.2.2.2
theorem c_goes {h : AH} {t m : Nat} {e : St} {pr : Pr} (rw : RW h t m e pr) : Con mX0_goes 31 0 0 [.ref 16, .ref t] h (retG (some (.int (b2i (dayE pr m e).2))) (fun h' => Chg (SS t) h h' ∧ RW h' t m (dayE pr m e).1 pr)) nox := by
  have w := rw.w
  have tm := rw.tm
  have h6 := rw.m6
  have ht := rw.tt
  refine Con.of rfl rfl (Nat.le_of_ble_eq_true rfl) ?_
  refine s_aload_n 0 dX0_goes_0 rfl rfl ?_
  refine s_aload_n 1 dX0_goes_1 rfl rfl ?_
  refine s_callV (M2 := mX0_doMove) dX0_goes_2 q493 bX0_doMove inX0_doMove.2 qs2 rfl (c_doMove rw) rfl rfl (rk (wk_16 w) rfl rfl) ⟨by decide, by decide, by decide⟩ (Nat.le_of_ble_eq_true rfl) (fun v1 h1 z1 => ?_) (fun _ _ z => z.elim)
  obtain ⟨rfl, x0, rw0, r0⟩ := z1
  refine s_istore_n (ls' := [(2, _), (0, _), (1, _)]) 2 dX0_goes_5 rfl (by decide) rfl ?_
  refine s_iconst (v := 0) dX0_goes_6 rfl ?_
  refine s_istore_n (ls' := [(3, _), (2, _), (0, _), (1, _)]) 3 dX0_goes_7 rfl (by decide) rfl ?_
  have L8 : ∀ p : Nat, p ≤ m → ∀ h2 : AH, Chg (SS t) h h2 → RW h2 t m (adE (rateE pr e) m (mvE (rateE pr e) m e m).1 p) pr → RT h2 m (rateE pr e) → AW mX0_goes 31 (retG (some (.int (b2i (dayE pr m e).2))) (fun h' => Chg (SS t) h h' ∧ RW h' t m (dayE pr m e).1 pr)) nox 0 0 8 [(3, .int (nI p)), (2, .int (b2i (mvE (rateE pr e) m e m).2)), (0, .ref 16), (1, .ref t)] [] h2 := by
    refine for_up (fun p hpp ih => ?_)
    intro h2 x1 rw1 r1
    have w := rw1.w
    have tm := rw1.tm
    refine s_iload_n 3 dX0_goes_8 rfl rfl ?_
    refine s_aload_n 1 dX0_goes_9 rfl rfl ?_
    refine s_getI dX0_goes_10 fl_X0_115 (fo_2_3.at tm.k) ?_
    refine s_icmp_ge 41 dX0_goes_13 (by decide) (fun c13 => ?_) (fun c13 => ?_)
    · skip
      have hge := le_ge tm.mm (by omega) (by omega) c13
      obtain rfl : p = m := by omega
      refine s_aload_n 1 dX0_goes_41 rfl rfl ?_
      refine s_dup dX0_goes_42 rfl ?_
      refine s_getI dX0_goes_43 fl_X0_181 (fo_2_6.at tm.k) ?_
      rw [rw1.tr.dy]
      refine s_iconst (v := 1) dX0_goes_46 rfl ?_
      refine s_iadd dX0_goes_47 ?_
      refine s_putJ dX0_goes_48 fl_X0_181 (fo_2_6.at tm.k) tm.t16 (Or.inl (fn_at tm.k rfl)) (ty_at tm.k rfl) ?_
      refine s_iload_n 2 dX0_goes_51 rfl rfl ?_
      exact s_ireturn .boolean dX0_goes_52 rfl (nb2i _) ⟨rfl, x1.s (by simp [SS]), rw1.day _⟩
    · skip
      have hlt := nle_lt tm.mm (by omega) (by omega) c13
      refine s_aload_n 1 dX0_goes_16 rfl rfl ?_
      refine s_getP dX0_goes_17 fl_X0_156 (fo_2_2.at tm.k) tm.p2 ?_
      refine s_iload_n 3 dX0_goes_20 rfl rfl ?_
      refine s_dup2 dX0_goes_21 rfl rfl ?_
      refine s_iald (j := p) dX0_goes_22 tm.k3 (ixn (tm.n3) (ix_nI (by omega) (by decide))) ?_
      rw [rw1.tr.pd hlt]
      refine s_aload_n 0 dX0_goes_23 rfl rfl ?_
      refine s_aload_n 1 dX0_goes_24 rfl rfl ?_
      refine s_iload_n 3 dX0_goes_25 rfl rfl ?_
      refine s_aload_n 1 dX0_goes_26 rfl rfl ?_
      refine s_callV_p (M2 := mX1_present) dX0_goes_27 q619 bX1_present inX1_present.2 q621 rfl (c_present _ _ tm.k) rfl rfl (rk tm.k rfl rfl) ⟨by decide, by decide, by decide⟩ (Nat.le_of_ble_eq_true rfl) ?_
      refine s_callV_p (M2 := mX0_shareOf) dX0_goes_30 q623 bX0_shareOf inX0_shareOf.2 qs7 rfl (c_shareOf tm _ hlt _) rfl rfl (rk (wk_16 w) rfl rfl) ⟨by decide, by decide, by decide⟩ (Nat.le_of_ble_eq_true rfl) ?_
      rw [share_shE rw1 r1 hlt]
      refine s_iadd dX0_goes_33 ?_
      refine s_iast (j := p) dX0_goes_34 tm.k3 (by have := tm.t16; omega) (ixn (tm.n3) (ix_nI (by omega) (by decide))) ?_
      refine s_iinc (v := nI (p + 1)) (ls' := [(3, _), (2, _), (0, _), (1, _)]) dX0_goes_35 rfl (nI_succ p).symm (by decide) rfl ?_
      refine s_goto 8 dX0_goes_38 (by decide) ?_
      exact AW.lc (ih hlt _ (x1.s (by simp [SS])) (rw1.paid hlt) (r1.s (by omega))) ⟨rfl, rfl, rfl, rfl, trivial⟩
  exact AW.lc (L8 0 (Nat.zero_le _) h1 x0 rw0 r0) ⟨rfl, rfl, rfl, rfl, trivial⟩
/-- a time takes another's numbers -/
def tkH (h : AH) (d s : Nat) : AH := sI (sI (sI (sI (cpI (cpI (cpI h (s + 1) 0 (d + 1) 0 6) (s + 2) 0 (d + 2) 0 6) (s + 3) 0 (d + 3) 0 6) d 3 (hI h s 3)) d 4 (hI h s 4)) d 5 (hI h s 5)) d 6 (hI h s 6)
theorem Chg.cp {S : List Nat} {h h' : AH} (x : Chg S h h') {a sp b dp n : Nat} (hb : b ∈ S) : Chg S h (cpI h' a sp b dp n) := x.trans ⟨rfl, rfl, rfl, fun c f hc => by
  have hcb : c ≠ b := fun z => hc (z ▸ hb)
  rw [hI_cpI, if_neg (by omega)]⟩
theorem tk_chg (h : AH) (d s : Nat) : Chg [d, d + 1, d + 2, d + 3] h (tkH h d s) := ((((((Chg.refl.cp (by simp)).cp (by simp)).cp (by simp)).s (by simp)).s (by simp)).s (by simp)).s (by simp)
theorem TR.tk {h : AH} {d s m : Nat} {e : St} (z : TR h s m e) (hd : d + 4 ≤ s ∨ s + 4 ≤ d) : TR (tkH h d s) d m e := by
  obtain ⟨z1, z2, z3, z4, z5⟩ := z
  have c : ∀ (j p : Nat), 1 ≤ j → j ≤ 3 → p < 6 → hI (tkH h d s) (d + j) p = hI h (s + j) p := by
    intro j p h1 h3 hp
    unfold tkH
    rw [hI_sI_ne (by omega), hI_sI_ne (by omega), hI_sI_ne (by omega), hI_sI_ne (by omega)]
    rcases (by omega : j = 1 ∨ j = 2 ∨ j = 3) with rfl | rfl | rfl
    · rw [hI_cpI, if_neg (by omega), hI_cpI, if_neg (by omega), hI_cpI, if_pos (by omega)]; congr 1; omega
    · rw [hI_cpI, if_neg (by omega), hI_cpI, if_pos (by omega), hI_cpI, if_neg (by omega)]; congr 1; omega
    · rw [hI_cpI, if_pos (by omega), hI_cpI, if_neg (by omega), hI_cpI, if_neg (by omega)]; congr 1; omega
  have f3 : hI (tkH h d s) d 3 = hI h s 3 := by unfold tkH; rw [hI_sI_ne (by omega), hI_sI_ne (by omega), hI_sI_ne (by omega), hI_sI]
  have f4 : hI (tkH h d s) d 4 = hI h s 4 := by unfold tkH; rw [hI_sI_ne (by omega), hI_sI_ne (by omega), hI_sI]
  have f5 : hI (tkH h d s) d 5 = hI h s 5 := by unfold tkH; rw [hI_sI_ne (by omega), hI_sI]
  have f6 : hI (tkH h d s) d 6 = hI h s 6 := by unfold tkH; rw [hI_sI]
  refine ⟨f3.trans z1, z2, fun p hp => ?_, f5.trans z4, f6.trans z5⟩
  rw [c 1 p (by decide) (by decide) (by omega), c 2 p (by decide) (by decide) (by omega), c 3 p (by decide) (by decide) (by omega), f4]
  exact z3 p hp
theorem c_takes23_19 {h : AH} (w : WF h) : Con mX1_takes 2 0 0 [.ref 23, .ref 19] h (retH none (tkH h 23 19)) nox := by
  refine Con.of rfl rfl (Nat.le_of_ble_eq_true rfl) ?_
  refine s_aload_n 1 dX1_takes_0 rfl rfl ?_
  refine s_getP dX1_takes_1 fl_X1_9 (fo_2_0.at (wk_19 w)) (wp_19_0 w) ?_
  refine s_iconst (v := 0) dX1_takes_4 rfl ?_
  refine s_aload_n 0 dX1_takes_5 rfl rfl ?_
  refine s_getP dX1_takes_6 fl_X1_9 (fo_2_0.at (wk_23 w)) (wp_23_0 w) ?_
  refine s_iconst (v := 0) dX1_takes_9 rfl ?_
  refine s_bipush (v := 6) dX1_takes_10 rfl ?_
  refine s_copyI (j := 1) 0 0 6 dX1_takes_12 q668 (wk_20 w) (wk_24 w) rfl rfl (by decide) rfl rfl rfl (by decide) (by have q9 := wn_20 w; exact Nat.le_of_eq q9.symm) (by have q9 := wn_24 w; exact Nat.le_of_eq q9.symm) (by decide) (Nat.le_of_ble_eq_true rfl) ?_
  refine s_aload_n 1 dX1_takes_15 rfl rfl ?_
  refine s_getP dX1_takes_16 fl_X1_15 (fo_2_1.at (wk_19 w)) (wp_19_1 w) ?_
  refine s_iconst (v := 0) dX1_takes_19 rfl ?_
  refine s_aload_n 0 dX1_takes_20 rfl rfl ?_
  refine s_getP dX1_takes_21 fl_X1_15 (fo_2_1.at (wk_23 w)) (wp_23_1 w) ?_
  refine s_iconst (v := 0) dX1_takes_24 rfl ?_
  refine s_bipush (v := 6) dX1_takes_25 rfl ?_
  refine s_copyI (j := 1) 0 0 6 dX1_takes_27 q668 (wk_21 w) (wk_25 w) rfl rfl (by decide) rfl rfl rfl (by decide) (by have q9 := wn_21 w; exact Nat.le_of_eq q9.symm) (by have q9 := wn_25 w; exact Nat.le_of_eq q9.symm) (by decide) (Nat.le_of_ble_eq_true rfl) ?_
  refine s_aload_n 1 dX1_takes_30 rfl rfl ?_
  refine s_getP dX1_takes_31 fl_X1_18 (fo_2_2.at (wk_19 w)) (wp_19_2 w) ?_
  refine s_iconst (v := 0) dX1_takes_34 rfl ?_
  refine s_aload_n 0 dX1_takes_35 rfl rfl ?_
  refine s_getP dX1_takes_36 fl_X1_18 (fo_2_2.at (wk_23 w)) (wp_23_2 w) ?_
  refine s_iconst (v := 0) dX1_takes_39 rfl ?_
  refine s_bipush (v := 6) dX1_takes_40 rfl ?_
  refine s_copyI (j := 0) 0 0 6 dX1_takes_42 q668 (wk_22 w) (wk_26 w) rfl rfl (by decide) rfl rfl rfl (by decide) (by have q9 := wn_22 w; exact Nat.le_of_eq q9.symm) (by have q9 := wn_26 w; exact Nat.le_of_eq q9.symm) (by decide) (Nat.le_of_ble_eq_true rfl) ?_
  refine s_aload_n 0 dX1_takes_45 rfl rfl ?_
  refine s_aload_n 1 dX1_takes_46 rfl rfl ?_
  refine s_getI dX1_takes_47 fl_X1_32 (fo_2_3.at (wk_19 w)) ?_
  refine s_putJ dX1_takes_50 fl_X1_32 (fo_2_3.at (wk_23 w)) (Nat.le_of_ble_eq_true rfl) (Or.inl (fn_at (wk_23 w) rfl)) (ty_at (wk_23 w) rfl) ?_
  refine s_aload_n 0 dX1_takes_53 rfl rfl ?_
  refine s_aload_n 1 dX1_takes_54 rfl rfl ?_
  refine s_getI dX1_takes_55 fl_X1_35 (fo_2_4.at (wk_19 w)) ?_
  refine s_putJ dX1_takes_58 fl_X1_35 (fo_2_4.at (wk_23 w)) (Nat.le_of_ble_eq_true rfl) (Or.inl (fn_at (wk_23 w) rfl)) (ty_at (wk_23 w) rfl) ?_
  refine s_aload_n 0 dX1_takes_61 rfl rfl ?_
  refine s_aload_n 1 dX1_takes_62 rfl rfl ?_
  refine s_getI dX1_takes_63 fl_X1_22 (fo_2_5.at (wk_19 w)) ?_
  refine s_putJ dX1_takes_66 fl_X1_22 (fo_2_5.at (wk_23 w)) (Nat.le_of_ble_eq_true rfl) (Or.inl (fn_at (wk_23 w) rfl)) (ty_at (wk_23 w) rfl) ?_
  refine s_aload_n 0 dX1_takes_69 rfl rfl ?_
  refine s_aload_n 1 dX1_takes_70 rfl rfl ?_
  refine s_getI dX1_takes_71 fl_X1_38 (fo_2_6.at (wk_19 w)) ?_
  refine s_putJ dX1_takes_74 fl_X1_38 (fo_2_6.at (wk_23 w)) (Nat.le_of_ble_eq_true rfl) (Or.inl (fn_at (wk_23 w) rfl)) (ty_at (wk_23 w) rfl) ?_
  exact s_return dX1_takes_77 rfl ⟨rfl, rfl⟩
theorem c_takes19_41 {h : AH} (w : WF h) : Con mX1_takes 2 0 0 [.ref 19, .ref 41] h (retH none (tkH h 19 41)) nox := by
  refine Con.of rfl rfl (Nat.le_of_ble_eq_true rfl) ?_
  refine s_aload_n 1 dX1_takes_0 rfl rfl ?_
  refine s_getP dX1_takes_1 fl_X1_9 (fo_2_0.at (wk_41 w)) (wp_41_0 w) ?_
  refine s_iconst (v := 0) dX1_takes_4 rfl ?_
  refine s_aload_n 0 dX1_takes_5 rfl rfl ?_
  refine s_getP dX1_takes_6 fl_X1_9 (fo_2_0.at (wk_19 w)) (wp_19_0 w) ?_
  refine s_iconst (v := 0) dX1_takes_9 rfl ?_
  refine s_bipush (v := 6) dX1_takes_10 rfl ?_
  refine s_copyI (j := 1) 0 0 6 dX1_takes_12 q668 (wk_42 w) (wk_20 w) rfl rfl (by decide) rfl rfl rfl (by decide) (by have q9 := wn_42 w; exact Nat.le_of_eq q9.symm) (by have q9 := wn_20 w; exact Nat.le_of_eq q9.symm) (by decide) (Nat.le_of_ble_eq_true rfl) ?_
  refine s_aload_n 1 dX1_takes_15 rfl rfl ?_
  refine s_getP dX1_takes_16 fl_X1_15 (fo_2_1.at (wk_41 w)) (wp_41_1 w) ?_
  refine s_iconst (v := 0) dX1_takes_19 rfl ?_
  refine s_aload_n 0 dX1_takes_20 rfl rfl ?_
  refine s_getP dX1_takes_21 fl_X1_15 (fo_2_1.at (wk_19 w)) (wp_19_1 w) ?_
  refine s_iconst (v := 0) dX1_takes_24 rfl ?_
  refine s_bipush (v := 6) dX1_takes_25 rfl ?_
  refine s_copyI (j := 1) 0 0 6 dX1_takes_27 q668 (wk_43 w) (wk_21 w) rfl rfl (by decide) rfl rfl rfl (by decide) (by have q9 := wn_43 w; exact Nat.le_of_eq q9.symm) (by have q9 := wn_21 w; exact Nat.le_of_eq q9.symm) (by decide) (Nat.le_of_ble_eq_true rfl) ?_
  refine s_aload_n 1 dX1_takes_30 rfl rfl ?_
  refine s_getP dX1_takes_31 fl_X1_18 (fo_2_2.at (wk_41 w)) (wp_41_2 w) ?_
  refine s_iconst (v := 0) dX1_takes_34 rfl ?_
  refine s_aload_n 0 dX1_takes_35 rfl rfl ?_
  refine s_getP dX1_takes_36 fl_X1_18 (fo_2_2.at (wk_19 w)) (wp_19_2 w) ?_
  refine s_iconst (v := 0) dX1_takes_39 rfl ?_
  refine s_bipush (v := 6) dX1_takes_40 rfl ?_
  refine s_copyI (j := 0) 0 0 6 dX1_takes_42 q668 (wk_44 w) (wk_22 w) rfl rfl (by decide) rfl rfl rfl (by decide) (by have q9 := wn_44 w; exact Nat.le_of_eq q9.symm) (by have q9 := wn_22 w; exact Nat.le_of_eq q9.symm) (by decide) (Nat.le_of_ble_eq_true rfl) ?_
  refine s_aload_n 0 dX1_takes_45 rfl rfl ?_
  refine s_aload_n 1 dX1_takes_46 rfl rfl ?_
  refine s_getI dX1_takes_47 fl_X1_32 (fo_2_3.at (wk_41 w)) ?_
  refine s_putJ dX1_takes_50 fl_X1_32 (fo_2_3.at (wk_19 w)) (Nat.le_of_ble_eq_true rfl) (Or.inl (fn_at (wk_19 w) rfl)) (ty_at (wk_19 w) rfl) ?_
  refine s_aload_n 0 dX1_takes_53 rfl rfl ?_
  refine s_aload_n 1 dX1_takes_54 rfl rfl ?_
  refine s_getI dX1_takes_55 fl_X1_35 (fo_2_4.at (wk_41 w)) ?_
  refine s_putJ dX1_takes_58 fl_X1_35 (fo_2_4.at (wk_19 w)) (Nat.le_of_ble_eq_true rfl) (Or.inl (fn_at (wk_19 w) rfl)) (ty_at (wk_19 w) rfl) ?_
  refine s_aload_n 0 dX1_takes_61 rfl rfl ?_
  refine s_aload_n 1 dX1_takes_62 rfl rfl ?_
  refine s_getI dX1_takes_63 fl_X1_22 (fo_2_5.at (wk_41 w)) ?_
  refine s_putJ dX1_takes_66 fl_X1_22 (fo_2_5.at (wk_19 w)) (Nat.le_of_ble_eq_true rfl) (Or.inl (fn_at (wk_19 w) rfl)) (ty_at (wk_19 w) rfl) ?_
  refine s_aload_n 0 dX1_takes_69 rfl rfl ?_
  refine s_aload_n 1 dX1_takes_70 rfl rfl ?_
  refine s_getI dX1_takes_71 fl_X1_38 (fo_2_6.at (wk_41 w)) ?_
  refine s_putJ dX1_takes_74 fl_X1_38 (fo_2_6.at (wk_19 w)) (Nat.le_of_ble_eq_true rfl) (Or.inl (fn_at (wk_19 w) rfl)) (ty_at (wk_19 w) rfl) ?_
  exact s_return dX1_takes_77 rfl ⟨rfl, rfl⟩
theorem c_takes41_19 {h : AH} (w : WF h) : Con mX1_takes 2 0 0 [.ref 41, .ref 19] h (retH none (tkH h 41 19)) nox := by
  refine Con.of rfl rfl (Nat.le_of_ble_eq_true rfl) ?_
  refine s_aload_n 1 dX1_takes_0 rfl rfl ?_
  refine s_getP dX1_takes_1 fl_X1_9 (fo_2_0.at (wk_19 w)) (wp_19_0 w) ?_
  refine s_iconst (v := 0) dX1_takes_4 rfl ?_
  refine s_aload_n 0 dX1_takes_5 rfl rfl ?_
  refine s_getP dX1_takes_6 fl_X1_9 (fo_2_0.at (wk_41 w)) (wp_41_0 w) ?_
  refine s_iconst (v := 0) dX1_takes_9 rfl ?_
  refine s_bipush (v := 6) dX1_takes_10 rfl ?_
  refine s_copyI (j := 1) 0 0 6 dX1_takes_12 q668 (wk_20 w) (wk_42 w) rfl rfl (by decide) rfl rfl rfl (by decide) (by have q9 := wn_20 w; exact Nat.le_of_eq q9.symm) (by have q9 := wn_42 w; exact Nat.le_of_eq q9.symm) (by decide) (Nat.le_of_ble_eq_true rfl) ?_
  refine s_aload_n 1 dX1_takes_15 rfl rfl ?_
  refine s_getP dX1_takes_16 fl_X1_15 (fo_2_1.at (wk_19 w)) (wp_19_1 w) ?_
  refine s_iconst (v := 0) dX1_takes_19 rfl ?_
  refine s_aload_n 0 dX1_takes_20 rfl rfl ?_
  refine s_getP dX1_takes_21 fl_X1_15 (fo_2_1.at (wk_41 w)) (wp_41_1 w) ?_
  refine s_iconst (v := 0) dX1_takes_24 rfl ?_
  refine s_bipush (v := 6) dX1_takes_25 rfl ?_
  refine s_copyI (j := 1) 0 0 6 dX1_takes_27 q668 (wk_21 w) (wk_43 w) rfl rfl (by decide) rfl rfl rfl (by decide) (by have q9 := wn_21 w; exact Nat.le_of_eq q9.symm) (by have q9 := wn_43 w; exact Nat.le_of_eq q9.symm) (by decide) (Nat.le_of_ble_eq_true rfl) ?_
  refine s_aload_n 1 dX1_takes_30 rfl rfl ?_
  refine s_getP dX1_takes_31 fl_X1_18 (fo_2_2.at (wk_19 w)) (wp_19_2 w) ?_
  refine s_iconst (v := 0) dX1_takes_34 rfl ?_
  refine s_aload_n 0 dX1_takes_35 rfl rfl ?_
  refine s_getP dX1_takes_36 fl_X1_18 (fo_2_2.at (wk_41 w)) (wp_41_2 w) ?_
  refine s_iconst (v := 0) dX1_takes_39 rfl ?_
  refine s_bipush (v := 6) dX1_takes_40 rfl ?_
  refine s_copyI (j := 0) 0 0 6 dX1_takes_42 q668 (wk_22 w) (wk_44 w) rfl rfl (by decide) rfl rfl rfl (by decide) (by have q9 := wn_22 w; exact Nat.le_of_eq q9.symm) (by have q9 := wn_44 w; exact Nat.le_of_eq q9.symm) (by decide) (Nat.le_of_ble_eq_true rfl) ?_
  refine s_aload_n 0 dX1_takes_45 rfl rfl ?_
  refine s_aload_n 1 dX1_takes_46 rfl rfl ?_
  refine s_getI dX1_takes_47 fl_X1_32 (fo_2_3.at (wk_19 w)) ?_
  refine s_putJ dX1_takes_50 fl_X1_32 (fo_2_3.at (wk_41 w)) (Nat.le_of_ble_eq_true rfl) (Or.inl (fn_at (wk_41 w) rfl)) (ty_at (wk_41 w) rfl) ?_
  refine s_aload_n 0 dX1_takes_53 rfl rfl ?_
  refine s_aload_n 1 dX1_takes_54 rfl rfl ?_
  refine s_getI dX1_takes_55 fl_X1_35 (fo_2_4.at (wk_19 w)) ?_
  refine s_putJ dX1_takes_58 fl_X1_35 (fo_2_4.at (wk_41 w)) (Nat.le_of_ble_eq_true rfl) (Or.inl (fn_at (wk_41 w) rfl)) (ty_at (wk_41 w) rfl) ?_
  refine s_aload_n 0 dX1_takes_61 rfl rfl ?_
  refine s_aload_n 1 dX1_takes_62 rfl rfl ?_
  refine s_getI dX1_takes_63 fl_X1_22 (fo_2_5.at (wk_19 w)) ?_
  refine s_putJ dX1_takes_66 fl_X1_22 (fo_2_5.at (wk_41 w)) (Nat.le_of_ble_eq_true rfl) (Or.inl (fn_at (wk_41 w) rfl)) (ty_at (wk_41 w) rfl) ?_
  refine s_aload_n 0 dX1_takes_69 rfl rfl ?_
  refine s_aload_n 1 dX1_takes_70 rfl rfl ?_
  refine s_getI dX1_takes_71 fl_X1_38 (fo_2_6.at (wk_19 w)) ?_
  refine s_putJ dX1_takes_74 fl_X1_38 (fo_2_6.at (wk_41 w)) (Nat.le_of_ble_eq_true rfl) (Or.inl (fn_at (wk_41 w) rfl)) (ty_at (wk_41 w) rfl) ?_
  exact s_return dX1_takes_77 rfl ⟨rfl, rfl⟩
/-- a number of all, summed -/
def sumF (e : St) (f : Nat) : Nat → Int32
  | 0 => 0
  | n + 1 => sumF e f n + e (10 * n + f)
theorem c_allSums {h : AH} {t m : Nat} {e : St} {pr : Pr} (rw : RW h t m e pr) : Con mX1_allSums 1 0 0 [.ref t] h (retV (.int (sumF e 5 m)) h) nox := by
  have w := rw.w
  have tm := rw.tm
  have h6 := rw.m6
  refine Con.of rfl rfl (Nat.le_of_ble_eq_true rfl) ?_
  refine s_iconst (v := 0) dX1_allSums_0 rfl ?_
  refine s_istore_n (ls' := [(1, _), (0, _)]) 1 dX1_allSums_1 rfl (by decide) rfl ?_
  refine s_iconst (v := 0) dX1_allSums_2 rfl ?_
  refine s_istore_n (ls' := [(2, _), (1, _), (0, _)]) 2 dX1_allSums_3 rfl (by decide) rfl ?_
  have L4 : ∀ p : Nat, p ≤ m → AW mX1_allSums 1 (retV (.int (sumF e 5 m)) h) nox 0 0 4 [(2, .int (nI p)), (1, .int (sumF e 5 p)), (0, .ref t)] [] h := by
    refine for_up (fun p hpp ih => ?_)
    refine s_iload_n 2 dX1_allSums_4 rfl rfl ?_
    refine s_aload_n 0 dX1_allSums_5 rfl rfl ?_
    refine s_getI dX1_allSums_6 fl_X1_32 (fo_2_3.at tm.k) ?_
    refine s_icmp_ge 27 dX1_allSums_9 (by decide) (fun c9 => ?_) (fun c9 => ?_)
    · skip
      have hge := le_ge tm.mm (by omega) (by omega) c9
      obtain rfl : p = m := by omega
      refine s_iload_n 1 dX1_allSums_27 rfl rfl ?_
      exact s_ireturn .int dX1_allSums_28 rfl rfl ⟨rfl, rfl⟩
    · skip
      have hlt := nle_lt tm.mm (by omega) (by omega) c9
      refine s_iload_n 1 dX1_allSums_12 rfl rfl ?_
      refine s_aload_n 0 dX1_allSums_13 rfl rfl ?_
      refine s_getP dX1_allSums_14 fl_X1_18 (fo_2_2.at tm.k) tm.p2 ?_
      refine s_iload_n 2 dX1_allSums_17 rfl rfl ?_
      refine s_iald (j := p) dX1_allSums_18 tm.k3 (ixn (tm.n3) (ix_nI (by omega) (by decide))) ?_
      rw [rw.tr.pd hlt]
      refine s_iadd dX1_allSums_19 ?_
      refine s_istore_n (ls' := [(1, _), (2, _), (0, _)]) 1 dX1_allSums_20 rfl (by decide) rfl ?_
      refine s_iinc (v := nI (p + 1)) (ls' := [(2, _), (1, _), (0, _)]) dX1_allSums_21 rfl (nI_succ p).symm (by decide) rfl ?_
      refine s_goto 4 dX1_allSums_24 (by decide) ?_
      exact AW.lc (ih hlt ) ⟨rfl, rfl, rfl, trivial⟩
  exact AW.lc (L4 0 (Nat.zero_le _) ) ⟨rfl, rfl, rfl, trivial⟩
theorem c_allYards {h : AH} {t m : Nat} {e : St} {pr : Pr} (rw : RW h t m e pr) : Con mX1_allYards 1 0 0 [.ref t] h (retV (.int (sumF e 3 m)) h) nox := by
  have w := rw.w
  have tm := rw.tm
  have h6 := rw.m6
  refine Con.of rfl rfl (Nat.le_of_ble_eq_true rfl) ?_
  refine s_iconst (v := 0) dX1_allYards_0 rfl ?_
  refine s_istore_n (ls' := [(1, _), (0, _)]) 1 dX1_allYards_1 rfl (by decide) rfl ?_
  refine s_iconst (v := 0) dX1_allYards_2 rfl ?_
  refine s_istore_n (ls' := [(2, _), (1, _), (0, _)]) 2 dX1_allYards_3 rfl (by decide) rfl ?_
  have L4 : ∀ p : Nat, p ≤ m → AW mX1_allYards 1 (retV (.int (sumF e 3 m)) h) nox 0 0 4 [(2, .int (nI p)), (1, .int (sumF e 3 p)), (0, .ref t)] [] h := by
    refine for_up (fun p hpp ih => ?_)
    refine s_iload_n 2 dX1_allYards_4 rfl rfl ?_
    refine s_aload_n 0 dX1_allYards_5 rfl rfl ?_
    refine s_getI dX1_allYards_6 fl_X1_32 (fo_2_3.at tm.k) ?_
    refine s_icmp_ge 27 dX1_allYards_9 (by decide) (fun c9 => ?_) (fun c9 => ?_)
    · skip
      have hge := le_ge tm.mm (by omega) (by omega) c9
      obtain rfl : p = m := by omega
      refine s_iload_n 1 dX1_allYards_27 rfl rfl ?_
      exact s_ireturn .int dX1_allYards_28 rfl rfl ⟨rfl, rfl⟩
    · skip
      have hlt := nle_lt tm.mm (by omega) (by omega) c9
      refine s_iload_n 1 dX1_allYards_12 rfl rfl ?_
      refine s_aload_n 0 dX1_allYards_13 rfl rfl ?_
      refine s_getP dX1_allYards_14 fl_X1_15 (fo_2_1.at tm.k) tm.p1 ?_
      refine s_iload_n 2 dX1_allYards_17 rfl rfl ?_
      refine s_bald (j := p) dX1_allYards_18 tm.k2 (ixn (tm.n2) (ix_nI (by omega) (by decide))) ?_
      rw [(tm.y hlt).trans (rw.tr.2.2.1 p hlt).2.2.1.symm]
      refine s_iadd dX1_allYards_19 ?_
      refine s_istore_n (ls' := [(1, _), (2, _), (0, _)]) 1 dX1_allYards_20 rfl (by decide) rfl ?_
      refine s_iinc (v := nI (p + 1)) (ls' := [(2, _), (1, _), (0, _)]) dX1_allYards_21 rfl (nI_succ p).symm (by decide) rfl ?_
      refine s_goto 4 dX1_allYards_24 (by decide) ?_
      exact AW.lc (ih hlt ) ⟨rfl, rfl, rfl, trivial⟩
  exact AW.lc (L4 0 (Nat.zero_le _) ) ⟨rfl, rfl, rfl, trivial⟩
/-- n days -/
def dayN (pr : Pr) (m : Nat) (e : St) : Nat → St
  | 0 => e
  | n + 1 => (dayE pr m (dayN pr m e n)).1
/-- what a trial changes -/
def S23 : List Nat := [23, 24, 25, 26, 30, 40]
theorem S23_fx : fxS S23 = true := by decide +kernel
theorem RW.keep19 {h h' : AH} {m : Nat} {e : St} {pr : Pr} (rw : RW h 19 m e pr) (x : Chg S23 h h') : RW h' 19 m e pr := rw.chg x S23_fx (by decide) (by decide) (fun z => absurd z (by decide))
theorem RW.try {h : AH} {m : Nat} {e : St} {pr : Pr} (rw : RW h 19 m e pr) : RW (tkH h 23 19) 23 m e pr := by
  have x := tk_chg h 23 19
  have rw2 := rw.chg (h' := tkH h 23 19) x (by decide +kernel) (by decide) (by decide) (fun z => absurd z (by decide))
  exact ⟨rw2.w, Or.inr rfl, rw.tr.tk (by decide), rw2.mo, rw2.pa⟩
theorem c_tries {h : AH} {m : Nat} {e : St} {pr : Pr} (rw : RW h 19 m e pr) (n : Nat) (hn : n ≤ 20) : Con mX0_tries 32 0 0 [.ref 16, .int (nI n)] h (retG none (fun h' => Chg S23 h h' ∧ RW h' 23 m (dayN pr m e n) pr)) nox := by
  have w := rw.w
  refine Con.of rfl rfl (Nat.le_of_ble_eq_true rfl) ?_
  refine s_aload_n 0 dX0_tries_0 rfl rfl ?_
  refine s_getP dX0_tries_1 fl_X0_32 (fo_1_3.at (wk_16 w)) (wp_16_3 w) ?_
  refine s_aload_n 0 dX0_tries_4 rfl rfl ?_
  refine s_getP dX0_tries_5 fl_X0_28 (fo_1_2.at (wk_16 w)) (wp_16_2 w) ?_
  refine s_callV (M2 := mX1_takes) dX0_tries_8 q664 bX1_takes inX1_takes.2 q666 rfl (c_takes23_19 w) rfl rfl (rk (wk_23 w) rfl rfl) ⟨by decide, by decide, by decide⟩ (Nat.le_of_ble_eq_true rfl) (fun v1 h1 z1 => ?_) (fun _ _ z => z.elim)
  obtain ⟨rfl, rfl⟩ := z1
  refine s_iconst (v := 0) dX0_tries_11 rfl ?_
  refine s_istore_n (ls' := [(2, _), (0, _), (1, _)]) 2 dX0_tries_12 rfl (by decide) rfl ?_
  have L13 : ∀ p : Nat, p ≤ n → ∀ h2 : AH, Chg S23 h h2 → RW h2 23 m (dayN pr m e p) pr → AW mX0_tries 32 (retG none (fun h' => Chg S23 h h' ∧ RW h' 23 m (dayN pr m e n) pr)) nox 0 0 13 [(2, .int (nI p)), (0, .ref 16), (1, .int (nI n))] [] h2 := by
    refine for_up (fun p hpp ih => ?_)
    intro h2 x1 rw1
    have w := rw1.w
    refine s_iload_n 2 dX0_tries_13 rfl rfl ?_
    refine s_iload_n 1 dX0_tries_14 rfl rfl ?_
    refine s_icmp_ge 33 dX0_tries_15 (by decide) (fun c15 => ?_) (fun c15 => ?_)
    · skip
      have hge := le_ge (y := nI n) rfl (by omega) (by omega) c15
      obtain rfl : p = n := by omega
      exact s_return dX0_tries_33 rfl ⟨rfl, x1, rw1⟩
    · skip
      have hlt := nle_lt (y := nI n) rfl (by omega) (by omega) c15
      refine s_aload_n 0 dX0_tries_18 rfl rfl ?_
      refine s_aload_n 0 dX0_tries_19 rfl rfl ?_
      refine s_getP dX0_tries_20 fl_X0_32 (fo_1_3.at (wk_16 w)) (wp_16_3 w) ?_
      refine s_callV (M2 := mX0_goes) dX0_tries_23 q489 bX0_goes inX0_goes.2 qs1 rfl (c_goes rw1) rfl rfl (rk (wk_16 w) rfl rfl) ⟨by decide, by decide, by decide⟩ (Nat.le_of_ble_eq_true rfl) (fun v2 h3 z2 => ?_) (fun _ _ z => z.elim)
      obtain ⟨rfl, x2, rw2⟩ := z2
      refine s_pop dX0_tries_26 rfl ?_
      refine s_iinc (v := nI (p + 1)) (ls' := [(2, _), (0, _), (1, _)]) dX0_tries_27 rfl (nI_succ p).symm (by decide) rfl ?_
      refine s_goto 13 dX0_tries_30 (by decide) ?_
      exact AW.lc (ih hlt _ (x1.trans (x2.mono (by decide))) rw2) ⟨rfl, rfl, rfl, trivial⟩
  exact AW.lc (L13 0 (Nat.zero_le _) _ ((tk_chg h 23 19).mono (by decide)) rw.try) ⟨rfl, rfl, rfl, trivial⟩
