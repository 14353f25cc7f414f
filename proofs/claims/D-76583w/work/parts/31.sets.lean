/-! the component: what is set -/
set_option maxRecDepth 100000
/-- the state is another where nothing of a time looks -/
theorem RW.cong {h : AH} {t m : Nat} {e e' : St} {pr : Pr} (rw : RW h t m e pr) (he : ∀ j, j < 63 → e' j = e j) : RW h t m e' pr := by
  have h6 := rw.m6
  have hy : ∀ q, q < m → yE e' q = yE e q := fun q hq => by unfold yE; rw [he _ (by omega)]
  have hh : ∀ q, q < m → hrE e' q = hrE e q := fun q hq => by unfold hrE; rw [he _ (by omega)]
  have hk : ∀ q, q < m → kE e' q = kE e q := fun q hq => by unfold kE; rw [he _ (by omega)]
  refine ⟨rw.w, rw.tt, ⟨rw.tr.1, h6, fun q hq => ?_, ?_, ?_⟩, fun q hq => ?_, rw.pa⟩
  · rw [hy q hq, hh q hq, he _ (by omega), he (10 * q + 3) (by omega), he (10 * q + 5) (by omega)]
    exact rw.tr.2.2.1 q hq
  · rw [he _ (by omega)]; exact rw.tr.2.2.2.1
  · rw [he _ (by omega)]; exact rw.tr.2.2.2.2
  · obtain ⟨z1, z2, z3, z4⟩ := rw.mo q hq
    rw [hk q hq, he (10 * q + 1) (by omega), he (10 * q) (by omega)]
    exact ⟨z1, z2, z3, fun j hj => by rw [he _ (by omega)]; exact z4 j hj⟩
theorem RW.love {h : AH} {t m : Nat} {e : St} {pr : Pr} (rw : RW h t m e pr) {p : Nat} {v : Int32} (hp : p < m) : RW (sI h (t + 1) p v) t m (upE e (10 * p + 2) v) pr := by
  have ht := rw.tt
  have h6 := rw.m6
  have x : Chg [t + 1] h (sI h (t + 1) p v) := Chg.refl.s (List.mem_singleton_self _)
  have hS : fxS [t + 1] = true := by rcases ht with rfl | rfl <;> decide +kernel
  refine ⟨rw.w.chg x, ht, ⟨(hI_sI_ne (by omega)).trans rw.tr.1, rw.m6, fun q hq => ?_, ?_, ?_⟩, fun q hq => ?_, ?_⟩
  · obtain ⟨z1, z2, z3, z4, z5, z6⟩ := rw.tr.2.2.1 q hq
    rw [hI_sI_ne (a := t + 1) (b := t + 2) (by omega), hI_sI_ne (a := t + 1) (b := t + 3) (by omega), hI_sI_ne (a := t + 1) (b := t) (by omega), upE_o (j := 10 * q + 3) (by omega), upE_o (j := 10 * q + 5) (by omega), yE_up (by omega), hrE_up (by omega)]
    refine ⟨?_, z2, z3, z4, z5, z6⟩
    by_cases c : q = p
    · subst c; rw [hI_sI, upE_s]
    · rw [hI_sI_ne (by omega), upE_o (by omega)]; exact z1
  · rw [hI_sI_ne (by omega), upE_o (by omega)]; exact rw.tr.2.2.2.1
  · rw [hI_sI_ne (by omega), upE_o (by omega)]; exact rw.tr.2.2.2.2
  · obtain ⟨z1, z2, z3, z4⟩ := rw.mo.chg rw.w x hS (by simp; omega) q hq
    rw [kE_up (by omega), upE_o (by omega), upE_o (j := 10 * q) (by omega)]
    exact ⟨z1, z2, z3, fun j hj => by rw [upE_o (by omega)]; exact z4 j hj⟩
  · exact rw.pa.chg rw.w x hS
theorem RW.rows {h : AH} {t m : Nat} {e : St} {pr : Pr} (rw : RW h t m e pr) {p j : Nat} {v : Int32} (hp : p < m) (hj : j < 4) : RW (sI h 18 (4 * p + j) v) t m (upE e (10 * p + 6 + j) v) pr := by
  have ht := rw.tt
  have h6 := rw.m6
  have x : Chg [18] h (sI h 18 (4 * p + j) v) := Chg.refl.s (List.mem_singleton_self _)
  have hS : fxS [18] = true := by decide +kernel
  have tr2 := rw.tr.chg x (by simp; omega) (by simp; omega) (by simp; omega) (by simp; omega)
  refine ⟨rw.w.chg x, ht, ⟨tr2.1, rw.m6, fun q hq => ?_, ?_, ?_⟩, fun q hq => ?_, ?_⟩
  · rw [upE_o (by omega), upE_o (j := 10 * q + 3) (by omega), upE_o (j := 10 * q + 5) (by omega), yE_up (by omega), hrE_up (by omega)]
    exact tr2.2.2.1 q hq
  · rw [upE_o (by omega)]; exact tr2.2.2.2.1
  · rw [upE_o (by omega)]; exact tr2.2.2.2.2
  · obtain ⟨z1, z2, z3, z4⟩ := rw.mo q hq
    rw [kE_up (by omega), upE_o (by omega), upE_o (j := 10 * q) (by omega)]
    refine ⟨z1.chg rw.w x hS, z2, z3, fun i hi => ?_⟩
    by_cases c : q = p ∧ i = j
    · obtain ⟨rfl, rfl⟩ := c
      rw [hI_sI, upE_s]
    · rw [hI_sI_ne (by omega), upE_o (by omega)]; exact z4 i hi
  · exact rw.pa.chg rw.w x hS
abbrev cl (x : Int32) : Nat := x.toNatClampNeg
def seV (m : Nat) (e : St) (x what n : Int32) : Int32 := if isM m x = true ∧ inB what 0 1 = true then (if inB n 0 (if what = 0 then 20 else 9) = true then e (10 * cl x + 2 + cl what) else -2) else -1
def seS (m : Nat) (e : St) (x what n : Int32) : St := if isM m x = true ∧ inB what 0 1 = true then (if inB n 0 (if what = 0 then 20 else 9) = true then upE e (10 * cl x + 2 + cl what) n else e) else e
theorem se_1 {m : Nat} {e : St} {x what n : Int32} (c : ¬ (isM m x = true ∧ inB what 0 1 = true)) : seV m e x what n = -1 ∧ seS m e x what n = e := ⟨if_neg c, if_neg c⟩
theorem se_2 {m : Nat} {e : St} {x what n : Int32} (c : isM m x = true ∧ inB what 0 1 = true) (c2 : inB n 0 (if what = 0 then 20 else 9) = false) : seV m e x what n = -2 ∧ seS m e x what n = e := ⟨(if_pos c).trans (if_neg (by rw [c2]; decide)), (if_pos c).trans (if_neg (by rw [c2]; decide))⟩
theorem se_3 {m : Nat} {e : St} {x what n : Int32} (c : isM m x = true ∧ inB what 0 1 = true) (c2 : inB n 0 (if what = 0 then 20 else 9) = true) : seV m e x what n = e (10 * cl x + 2 + cl what) ∧ seS m e x what n = upE e (10 * cl x + 2 + cl what) n := ⟨(if_pos c).trans (if_pos c2), (if_pos c).trans (if_pos c2)⟩
theorem inB_1 {x : Int32} (h : inB x 0 1 = true) : x = 0 ∨ x = 1 := by
  obtain ⟨p, hp, rfl⟩ := inB_nI (n := 1) (by decide) h
  rcases (by omega : p = 0 ∨ p = 1) with rfl | rfl
  · exact Or.inl rfl
  · exact Or.inr rfl
theorem c_set {h : AH} {m : Nat} {e : St} {pr : Pr} (rw : RW h 19 m e pr) (x what n : Int32) : Con mX0_set 2 0 0 [.ref 16, .int x, .int what, .int n] h (retG (some (.int (seV m e x what n))) (fun h' => Chg [20, 21] h h' ∧ RW h' 19 m (seS m e x what n) pr)) nox := by
  have w := rw.w
  have tm := rw.tm
  have h6 := rw.m6
  have hmm := rw.tr.1
  refine Con.of rfl rfl (Nat.le_of_ble_eq_true rfl) ?_
  refine s_aload_n 0 dX0_set_0 rfl rfl ?_
  refine s_iload_n 1 dX0_set_1 rfl rfl ?_
  refine s_callV_p (M2 := mX0_isMourner) dX0_set_2 q656 bX0_isMourner inX0_isMourner.2 qs13 rfl (c_isM rw.w hmm _) rfl rfl (rk (wk_16 w) rfl rfl) ⟨by decide, by decide, by decide⟩ (Nat.le_of_ble_eq_true rfl) ?_
  refine s_ifeq_b 17 dX0_set_5 (by decide) (fun c5 => ?_) (fun c5 => ?_)
  · skip
    refine s_iconst (v := -1) dX0_set_17 rfl ?_
    exact s_ireturn .int dX0_set_18 rfl rfl ⟨by rw [(se_1 (fun y => by rw [c5] at y; exact absurd y.1 (by decide))).1], Chg.refl, by rw [(se_1 (fun y => by rw [c5] at y; exact absurd y.1 (by decide))).2]; exact rw⟩
  · skip
    refine s_iload_n 2 dX0_set_8 rfl rfl ?_
    refine s_iconst (v := 0) dX0_set_9 rfl ?_
    refine s_iconst (v := 1) dX0_set_10 rfl ?_
    refine s_callS_p (M2 := mX0_in) dX0_set_11 q373 stX0_in rfl (c_in _ _ _ _) rfl rfl ⟨by decide, by decide, by decide⟩ (Nat.le_of_ble_eq_true rfl) ?_
    refine s_ifne_b 19 dX0_set_14 (by decide) (fun c14 => ?_) (fun c14 => ?_)
    · skip
      refine s_iload_n 3 dX0_set_19 rfl rfl ?_
      refine s_iconst (v := 0) dX0_set_20 rfl ?_
      refine s_iload_n 2 dX0_set_21 rfl rfl ?_
      refine s_if_ne 30 dX0_set_22 (by decide) (fun c22 => ?_) (fun c22 => ?_)
      · skip
        refine s_bipush (v := 9) dX0_set_30 rfl ?_
        refine s_callS_p (M2 := mX0_in) dX0_set_32 q373 stX0_in rfl (c_in _ _ _ _) rfl rfl ⟨by decide, by decide, by decide⟩ (Nat.le_of_ble_eq_true rfl) ?_
        refine s_ifne_b 41 dX0_set_35 (by decide) (fun c35 => ?_) (fun c35 => ?_)
        · skip
          refine s_iload_n 2 dX0_set_41 rfl rfl ?_
          refine s_if_ne 55 dX0_set_42 (by decide) (fun c42 => ?_) (fun c42 => ?_)
          · skip
            refine s_aload_n 0 dX0_set_55 rfl rfl ?_
            refine s_getP dX0_set_56 fl_X0_28 (fo_1_2.at (wk_16 w)) (wp_16_2 w) ?_
            refine s_getP dX0_set_59 fl_X0_153 (fo_2_1.at (wk_19 w)) (wp_19_1 w) ?_
            refine s_astore (ls' := [(4, _), (0, _), (1, _), (2, _), (3, _)]) dX0_set_62 (by decide) rfl ?_
            obtain ⟨q, hq, rfl⟩ := isM_ex h6 c5
            have hpc : cl (nI q) = q := nI_clamp (by omega)
            obtain ⟨j, hj, rfl⟩ := inB_nI (n := 9) (by decide) c35
            have hw1 := (inB_1 c14).resolve_left c22
            refine s_aload dX0_set_64 rfl ?_
            refine s_iload_n 1 dX0_set_66 rfl rfl ?_
            refine s_bald (j := q) dX0_set_67 (wk_21 w) (ixn (wn_21 w) (ix_nI (by omega) (by decide))) ?_
            rw [(rw.tr.2.2.1 q hq).2.1, ← (rw.tr.2.2.1 q hq).2.2.1]
            refine s_istore (ls' := [(5, _), (4, _), (0, _), (1, _), (2, _), (3, _)]) dX0_set_68 (by decide) rfl ?_
            refine s_aload dX0_set_70 rfl ?_
            refine s_iload_n 1 dX0_set_72 rfl rfl ?_
            refine s_iload_n 3 dX0_set_73 rfl rfl ?_
            refine s_i2b dX0_set_74 ?_
            rw [nI_b j (by omega)]
            refine s_bast (j := q) dX0_set_75 (wk_21 w) (Nat.le_of_ble_eq_true rfl) (ixn (wn_21 w) (ix_nI (by omega) (by decide))) ?_
            rw [nI_b j (by omega)]
            refine s_iload dX0_set_76 rfl ?_
            exact s_ireturn .int dX0_set_78 rfl rfl ⟨by rw [(se_3 ⟨c5, c14⟩ (by rw [if_neg c22]; exact c35)).1, hpc, hw1]; rfl, Chg.refl.s (by decide), by rw [(se_3 ⟨c5, c14⟩ (by rw [if_neg c22]; exact c35)).2, hpc, hw1]; exact rw.yard hq (by omega)⟩
          · exact absurd c42 c22
        · skip
          refine s_bipush (v := -2) dX0_set_38 rfl ?_
          exact s_ireturn .int dX0_set_40 rfl rfl ⟨by rw [(se_2 ⟨c5, c14⟩ (by rw [if_neg c22]; exact c35)).1], Chg.refl, by rw [(se_2 ⟨c5, c14⟩ (by rw [if_neg c22]; exact c35)).2]; exact rw⟩
      · skip
        refine s_bipush (v := 20) dX0_set_25 rfl ?_
        refine s_goto 32 dX0_set_27 (by decide) ?_
        refine s_callS_p (M2 := mX0_in) dX0_set_32 q373 stX0_in rfl (c_in _ _ _ _) rfl rfl ⟨by decide, by decide, by decide⟩ (Nat.le_of_ble_eq_true rfl) ?_
        refine s_ifne_b 41 dX0_set_35 (by decide) (fun c35 => ?_) (fun c35 => ?_)
        · skip
          refine s_iload_n 2 dX0_set_41 rfl rfl ?_
          refine s_if_ne 55 dX0_set_42 (by decide) (fun c42 => ?_) (fun c42 => ?_)
          · exact absurd c22 c42
          · skip
            refine s_aload_n 0 dX0_set_45 rfl rfl ?_
            refine s_getP dX0_set_46 fl_X0_28 (fo_1_2.at (wk_16 w)) (wp_16_2 w) ?_
            refine s_getP dX0_set_49 fl_X0_150 (fo_2_0.at (wk_19 w)) (wp_19_0 w) ?_
            refine s_goto 62 dX0_set_52 (by decide) ?_
            refine s_astore (ls' := [(4, _), (0, _), (1, _), (2, _), (3, _)]) dX0_set_62 (by decide) rfl ?_
            obtain ⟨q, hq, rfl⟩ := isM_ex h6 c5
            have hpc : cl (nI q) = q := nI_clamp (by omega)
            obtain ⟨j, hj, rfl⟩ := inB_nI (n := 20) (by decide) c35
            refine s_aload dX0_set_64 rfl ?_
            refine s_iload_n 1 dX0_set_66 rfl rfl ?_
            refine s_bald (j := q) dX0_set_67 (wk_20 w) (ixn (wn_20 w) (ix_nI (by omega) (by decide))) ?_
            rw [(rw.tr.2.2.1 q hq).1]
            refine s_istore (ls' := [(5, _), (4, _), (0, _), (1, _), (2, _), (3, _)]) dX0_set_68 (by decide) rfl ?_
            refine s_aload dX0_set_70 rfl ?_
            refine s_iload_n 1 dX0_set_72 rfl rfl ?_
            refine s_iload_n 3 dX0_set_73 rfl rfl ?_
            refine s_i2b dX0_set_74 ?_
            rw [nI_b j (by omega)]
            refine s_bast (j := q) dX0_set_75 (wk_20 w) (Nat.le_of_ble_eq_true rfl) (ixn (wn_20 w) (ix_nI (by omega) (by decide))) ?_
            rw [nI_b j (by omega)]
            refine s_iload dX0_set_76 rfl ?_
            exact s_ireturn .int dX0_set_78 rfl rfl ⟨by rw [(se_3 ⟨c5, c14⟩ (by rw [if_pos c22]; exact c35)).1, hpc, c22]; rfl, Chg.refl.s (by decide), by rw [(se_3 ⟨c5, c14⟩ (by rw [if_pos c22]; exact c35)).2, hpc, c22]; exact rw.love hq⟩
        · skip
          refine s_bipush (v := -2) dX0_set_38 rfl ?_
          exact s_ireturn .int dX0_set_40 rfl rfl ⟨by rw [(se_2 ⟨c5, c14⟩ (by rw [if_pos c22]; exact c35)).1], Chg.refl, by rw [(se_2 ⟨c5, c14⟩ (by rw [if_pos c22]; exact c35)).2]; exact rw⟩
    · skip
      refine s_iconst (v := -1) dX0_set_17 rfl ?_
      exact s_ireturn .int dX0_set_18 rfl rfl ⟨by rw [(se_1 (fun y => by rw [c14] at y; exact absurd y.2 (by decide))).1], Chg.refl, by rw [(se_1 (fun y => by rw [c14] at y; exact absurd y.2 (by decide))).2]; exact rw⟩
def awV (m : Nat) (e : St) (x : Int32) : Int32 := if isM m x = true then (if hrE e (cl x) = true then 0 else 1) else -1
def awS (m : Nat) (e : St) (x : Int32) (b : Bool) : St := if isM m x = true then upE e (10 * cl x + 4) (b2i b) else e
theorem awV_p {m p : Nat} {e : St} (h6 : m ≤ 6) (hp : p < m) : awV m e (nI p) = (if hrE e p = true then 0 else 1) := by
  unfold awV
  rw [if_pos (isM_p h6 hp), show cl (nI p) = p from nI_clamp (by omega)]
theorem awS_p {m p : Nat} {e : St} {b : Bool} (h6 : m ≤ 6) (hp : p < m) : awS m e (nI p) b = upE e (10 * p + 4) (b2i b) := by
  unfold awS
  rw [if_pos (isM_p h6 hp), show cl (nI p) = p from nI_clamp (by omega)]
theorem bs_or0 {g : Int32} {e : St} {m : Nat} (h6 : m ≤ 6) (hg : ∀ q, q < m → bs g q = !hrE e q) : ∀ q, q < m → bs (g ||| 0) q = !hrE e q := fun q hq => by rw [bs_or _ _ (by omega), bs_0 (by omega), hg q hq]; simp
theorem c_away {h : AH} {m : Nat} {e : St} {pr : Pr} (rw : RW h 19 m e pr) (g : GO h 19 m) (x : Int32) (b : Bool) : Con mX0_away 2 0 0 [.ref 16, .int x, .int (b2i b)] h (retG (some (.int (awV m e x))) (fun h' => Chg [19] h h' ∧ RW h' 19 m (awS m e x b) pr ∧ GO h' 19 m)) nox := by
  have w := rw.w
  have tm := rw.tm
  have h6 := rw.m6
  have hmm := rw.tr.1
  refine Con.of rfl rfl (Nat.le_of_ble_eq_true rfl) ?_
  refine s_aload_n 0 dX0_away_0 rfl rfl ?_
  refine s_iload_n 1 dX0_away_1 rfl rfl ?_
  refine s_callV_p (M2 := mX0_isMourner) dX0_away_2 q656 bX0_isMourner inX0_isMourner.2 qs13 rfl (c_isM rw.w hmm _) rfl rfl (rk (wk_16 w) rfl rfl) ⟨by decide, by decide, by decide⟩ (Nat.le_of_ble_eq_true rfl) ?_
  refine s_ifne_b 10 dX0_away_5 (by decide) (fun c5 => ?_) (fun c5 => ?_)
  · skip
    obtain ⟨q, hq, rfl⟩ := isM_ex h6 c5
    refine s_aload_n 0 dX0_away_10 rfl rfl ?_
    refine s_getP dX0_away_11 fl_X0_28 (fo_1_2.at (wk_16 w)) (wp_16_2 w) ?_
    refine s_iload_n 1 dX0_away_14 rfl rfl ?_
    refine s_callV_p (M2 := mX1_isAway) dX0_away_15 q604 bX1_isAway inX1_isAway.2 q606 rfl (c_isAway _ _ _ (wk_19 w)) rfl rfl (rk (wk_19 w) rfl rfl) ⟨by decide, by decide, by decide⟩ (Nat.le_of_ble_eq_true rfl) ?_
    have hgo := (rw.tr.2.2.1 q hq).2.2.2.2.2
    change bs (hI h 19 4) q = _ at hgo
    refine s_ifeq_b 25 dX0_away_18 (by decide) (fun c18 => ?_) (fun c18 => ?_)
    · skip
      have hyg : hrE e q = true := by have y := hgo; rw [show bs (hI h 19 4) q = false from c18] at y; simpa using y
      refine s_iconst (v := 0) dX0_away_25 rfl ?_
      refine s_istore_n (ls' := [(3, _), (0, _), (1, _), (2, _)]) 3 dX0_away_26 rfl (by decide) rfl ?_
      refine s_aload_n 0 dX0_away_27 rfl rfl ?_
      refine s_getP dX0_away_28 fl_X0_28 (fo_1_2.at (wk_16 w)) (wp_16_2 w) ?_
      refine s_aload_n 0 dX0_away_31 rfl rfl ?_
      refine s_getP dX0_away_32 fl_X0_28 (fo_1_2.at (wk_16 w)) (wp_16_2 w) ?_
      refine s_getI dX0_away_35 fl_X0_159 (fo_2_4.at (wk_19 w)) ?_
      refine s_iconst (v := 1) dX0_away_38 rfl ?_
      refine s_iload_n 1 dX0_away_39 rfl rfl ?_
      refine s_ishl dX0_away_40 ?_
      refine s_iconst (v := -1) dX0_away_41 rfl ?_
      refine s_ixor dX0_away_42 ?_
      refine s_iand dX0_away_43 ?_
      refine s_iload_n 2 dX0_away_44 rfl rfl ?_
      refine s_ifeq_b 54 dX0_away_45 (by decide) (fun c45 => ?_) (fun c45 => ?_)
      · skip
        refine s_iconst (v := 0) dX0_away_54 rfl ?_
        refine s_ior dX0_away_55 ?_
        refine s_putJ dX0_away_56 fl_X0_159 (fo_2_4.at (wk_19 w)) (Nat.le_of_ble_eq_true rfl) (Or.inl (fn_at (wk_19 w) rfl)) (ty_at (wk_19 w) rfl) ?_
        refine s_iload_n 3 dX0_away_59 rfl rfl ?_
        exact s_ireturn .int dX0_away_60 rfl rfl ⟨by rw [awV_p h6 hq, if_pos hyg], Chg.refl.s (by decide), by rw [awS_p h6 hq, c45]; exact rw.gone hq (bs_or0 h6 (bs_clr h6 hq rw.tr.gn)), fun i h1 h2 => by rw [hI_sI, bs_or _ _ h2, bs_and _ _ h2, g i h1 h2, bs_0 h2]; rfl⟩
      · skip
        refine s_iconst (v := 1) dX0_away_48 rfl ?_
        refine s_iload_n 1 dX0_away_49 rfl rfl ?_
        refine s_ishl dX0_away_50 ?_
        refine s_goto 55 dX0_away_51 (by decide) ?_
        refine s_ior dX0_away_55 ?_
        refine s_putJ dX0_away_56 fl_X0_159 (fo_2_4.at (wk_19 w)) (Nat.le_of_ble_eq_true rfl) (Or.inl (fn_at (wk_19 w) rfl)) (ty_at (wk_19 w) rfl) ?_
        refine s_iload_n 3 dX0_away_59 rfl rfl ?_
        exact s_ireturn .int dX0_away_60 rfl rfl ⟨by rw [awV_p h6 hq, if_pos hyg], Chg.refl.s (by decide), by rw [awS_p h6 hq, c45]; exact rw.gone hq (by have y := bs_set h6 hq (bs_clr h6 hq rw.tr.gn); rw [upE_2] at y; exact y), fun i h1 h2 => by rw [hI_sI, bs_or _ _ h2, bs_and _ _ h2, g i h1 h2, bs_one2 (by omega) h2, decide_eq_false (by omega)]; rfl⟩
    · skip
      have hng : hrE e q = false := by have y := hgo; rw [show bs (hI h 19 4) q = true from c18] at y; simpa using y
      refine s_iconst (v := 1) dX0_away_21 rfl ?_
      refine s_goto 26 dX0_away_22 (by decide) ?_
      refine s_istore_n (ls' := [(3, _), (0, _), (1, _), (2, _)]) 3 dX0_away_26 rfl (by decide) rfl ?_
      refine s_aload_n 0 dX0_away_27 rfl rfl ?_
      refine s_getP dX0_away_28 fl_X0_28 (fo_1_2.at (wk_16 w)) (wp_16_2 w) ?_
      refine s_aload_n 0 dX0_away_31 rfl rfl ?_
      refine s_getP dX0_away_32 fl_X0_28 (fo_1_2.at (wk_16 w)) (wp_16_2 w) ?_
      refine s_getI dX0_away_35 fl_X0_159 (fo_2_4.at (wk_19 w)) ?_
      refine s_iconst (v := 1) dX0_away_38 rfl ?_
      refine s_iload_n 1 dX0_away_39 rfl rfl ?_
      refine s_ishl dX0_away_40 ?_
      refine s_iconst (v := -1) dX0_away_41 rfl ?_
      refine s_ixor dX0_away_42 ?_
      refine s_iand dX0_away_43 ?_
      refine s_iload_n 2 dX0_away_44 rfl rfl ?_
      refine s_ifeq_b 54 dX0_away_45 (by decide) (fun c45 => ?_) (fun c45 => ?_)
      · skip
        refine s_iconst (v := 0) dX0_away_54 rfl ?_
        refine s_ior dX0_away_55 ?_
        refine s_putJ dX0_away_56 fl_X0_159 (fo_2_4.at (wk_19 w)) (Nat.le_of_ble_eq_true rfl) (Or.inl (fn_at (wk_19 w) rfl)) (ty_at (wk_19 w) rfl) ?_
        refine s_iload_n 3 dX0_away_59 rfl rfl ?_
        exact s_ireturn .int dX0_away_60 rfl rfl ⟨by rw [awV_p h6 hq, if_neg (by rw [hng]; decide)], Chg.refl.s (by decide), by rw [awS_p h6 hq, c45]; exact rw.gone hq (bs_or0 h6 (bs_clr h6 hq rw.tr.gn)), fun i h1 h2 => by rw [hI_sI, bs_or _ _ h2, bs_and _ _ h2, g i h1 h2, bs_0 h2]; rfl⟩
      · skip
        refine s_iconst (v := 1) dX0_away_48 rfl ?_
        refine s_iload_n 1 dX0_away_49 rfl rfl ?_
        refine s_ishl dX0_away_50 ?_
        refine s_goto 55 dX0_away_51 (by decide) ?_
        refine s_ior dX0_away_55 ?_
        refine s_putJ dX0_away_56 fl_X0_159 (fo_2_4.at (wk_19 w)) (Nat.le_of_ble_eq_true rfl) (Or.inl (fn_at (wk_19 w) rfl)) (ty_at (wk_19 w) rfl) ?_
        refine s_iload_n 3 dX0_away_59 rfl rfl ?_
        exact s_ireturn .int dX0_away_60 rfl rfl ⟨by rw [awV_p h6 hq, if_neg (by rw [hng]; decide)], Chg.refl.s (by decide), by rw [awS_p h6 hq, c45]; exact rw.gone hq (by have y := bs_set h6 hq (bs_clr h6 hq rw.tr.gn); rw [upE_2] at y; exact y), fun i h1 h2 => by rw [hI_sI, bs_or _ _ h2, bs_and _ _ h2, g i h1 h2, bs_one2 (by omega) h2, decide_eq_false (by omega)]; rfl⟩
  · skip
    refine s_iconst (v := -1) dX0_away_8 rfl ?_
    exact s_ireturn .int dX0_away_9 rfl rfl ⟨by unfold awV; rw [if_neg (by rw [c5]; decide)], Chg.refl, by unfold awS; rw [if_neg (by rw [c5]; decide)]; exact rw, g⟩
def deV (e : St) (n : Int32) : Int32 := if inB n 0 999 = true then e 61 else -2
def deS (e : St) (n : Int32) : St := if inB n 0 999 = true then upE e 61 n else e
def roV (m : Nat) (e : St) (x part n : Int32) : Int32 := if isM m x = true ∧ inB part 0 3 = true then (if inB n 0 9 = true then (if e (10 * cl x) = 6 then e (10 * cl x + 6 + cl part) else -3) else -2) else -1
def roS (m : Nat) (e : St) (x part n : Int32) : St := if isM m x = true ∧ inB part 0 3 = true then (if inB n 0 9 = true then (if e (10 * cl x) = 6 then upE e (10 * cl x + 6 + cl part) n else e) else e) else e
theorem ro_1 {m : Nat} {e : St} {x part n : Int32} (c : ¬ (isM m x = true ∧ inB part 0 3 = true)) : roV m e x part n = -1 ∧ roS m e x part n = e := ⟨if_neg c, if_neg c⟩
theorem ro_2 {m : Nat} {e : St} {x part n : Int32} (c : isM m x = true ∧ inB part 0 3 = true) (c2 : inB n 0 9 = false) : roV m e x part n = -2 ∧ roS m e x part n = e := ⟨(if_pos c).trans (if_neg (by rw [c2]; decide)), (if_pos c).trans (if_neg (by rw [c2]; decide))⟩
theorem ro_3 {m : Nat} {e : St} {x part n : Int32} (c : isM m x = true ∧ inB part 0 3 = true) (c2 : inB n 0 9 = true) (c3 : ¬ e (10 * cl x) = 6) : roV m e x part n = -3 ∧ roS m e x part n = e := ⟨(if_pos c).trans ((if_pos c2).trans (if_neg c3)), (if_pos c).trans ((if_pos c2).trans (if_neg c3))⟩
theorem ro_4 {m : Nat} {e : St} {x part n : Int32} (c : isM m x = true ∧ inB part 0 3 = true) (c2 : inB n 0 9 = true) (c3 : e (10 * cl x) = 6) : roV m e x part n = e (10 * cl x + 6 + cl part) ∧ roS m e x part n = upE e (10 * cl x + 6 + cl part) n := ⟨(if_pos c).trans ((if_pos c2).trans (if_pos c3)), (if_pos c).trans ((if_pos c2).trans (if_pos c3))⟩
theorem c_debt {h : AH} {m : Nat} {e : St} {pr : Pr} (rw : RW h 19 m e pr) (n : Int32) : Con mX0_debt 2 0 0 [.ref 16, .int n] h (retG (some (.int (deV e n))) (fun h' => Chg [19] h h' ∧ RW h' 19 m (deS e n) pr)) nox := by
  have w := rw.w
  have tm := rw.tm
  have h6 := rw.m6
  have hmm := rw.tr.1
  refine Con.of rfl rfl (Nat.le_of_ble_eq_true rfl) ?_
  refine s_iload_n 1 dX0_debt_0 rfl rfl ?_
  refine s_callS_p (M2 := mX0_isDebt) dX0_debt_1 q691 stX0_isDebt rfl (c_isDebt _ _) rfl rfl ⟨by decide, by decide, by decide⟩ (Nat.le_of_ble_eq_true rfl) ?_
  refine s_ifne_b 10 dX0_debt_4 (by decide) (fun c4 => ?_) (fun c4 => ?_)
  · skip
    refine s_aload_n 0 dX0_debt_10 rfl rfl ?_
    refine s_getP dX0_debt_11 fl_X0_28 (fo_1_2.at (wk_16 w)) (wp_16_2 w) ?_
    refine s_getI dX0_debt_14 fl_X0_213 (fo_2_5.at (wk_19 w)) ?_
    rw [rw.tr.2.2.2.1]
    refine s_istore_n (ls' := [(2, _), (0, _), (1, _)]) 2 dX0_debt_17 rfl (by decide) rfl ?_
    refine s_aload_n 0 dX0_debt_18 rfl rfl ?_
    refine s_getP dX0_debt_19 fl_X0_28 (fo_1_2.at (wk_16 w)) (wp_16_2 w) ?_
    refine s_iload_n 1 dX0_debt_22 rfl rfl ?_
    refine s_putJ dX0_debt_23 fl_X0_213 (fo_2_5.at (wk_19 w)) (Nat.le_of_ble_eq_true rfl) (Or.inl (fn_at (wk_19 w) rfl)) (ty_at (wk_19 w) rfl) ?_
    refine s_iload_n 2 dX0_debt_26 rfl rfl ?_
    exact s_ireturn .int dX0_debt_27 rfl rfl ⟨by unfold deV; rw [if_pos c4], Chg.refl.s (by decide), by unfold deS; rw [if_pos c4]; exact rw.debt n⟩
  · skip
    refine s_bipush (v := -2) dX0_debt_7 rfl ?_
    exact s_ireturn .int dX0_debt_9 rfl rfl ⟨by unfold deV; rw [if_neg (by rw [c4]; decide)], Chg.refl, by unfold deS; rw [if_neg (by rw [c4]; decide)]; exact rw⟩
theorem c_row {h : AH} {m : Nat} {e : St} {pr : Pr} (rw : RW h 19 m e pr) (x part n : Int32) : Con mX0_row 2 0 0 [.ref 16, .int x, .int part, .int n] h (retG (some (.int (roV m e x part n))) (fun h' => Chg [18] h h' ∧ RW h' 19 m (roS m e x part n) pr)) nox := by
  have w := rw.w
  have tm := rw.tm
  have h6 := rw.m6
  have hmm := rw.tr.1
  refine Con.of rfl rfl (Nat.le_of_ble_eq_true rfl) ?_
  refine s_aload_n 0 dX0_row_0 rfl rfl ?_
  refine s_iload_n 1 dX0_row_1 rfl rfl ?_
  refine s_callV_p (M2 := mX0_isMourner) dX0_row_2 q656 bX0_isMourner inX0_isMourner.2 qs13 rfl (c_isM rw.w hmm _) rfl rfl (rk (wk_16 w) rfl rfl) ⟨by decide, by decide, by decide⟩ (Nat.le_of_ble_eq_true rfl) ?_
  refine s_ifeq_b 17 dX0_row_5 (by decide) (fun c5 => ?_) (fun c5 => ?_)
  · skip
    refine s_iconst (v := -1) dX0_row_17 rfl ?_
    exact s_ireturn .int dX0_row_18 rfl rfl ⟨by rw [(ro_1 (fun y => by rw [c5] at y; exact absurd y.1 (by decide))).1], Chg.refl, by rw [(ro_1 (fun y => by rw [c5] at y; exact absurd y.1 (by decide))).2]; exact rw⟩
  · skip
    refine s_iload_n 2 dX0_row_8 rfl rfl ?_
    refine s_iconst (v := 0) dX0_row_9 rfl ?_
    refine s_iconst (v := 3) dX0_row_10 rfl ?_
    refine s_callS_p (M2 := mX0_in) dX0_row_11 q373 stX0_in rfl (c_in _ _ _ _) rfl rfl ⟨by decide, by decide, by decide⟩ (Nat.le_of_ble_eq_true rfl) ?_
    refine s_ifne_b 19 dX0_row_14 (by decide) (fun c14 => ?_) (fun c14 => ?_)
    · skip
      refine s_iload_n 3 dX0_row_19 rfl rfl ?_
      refine s_iconst (v := 0) dX0_row_20 rfl ?_
      refine s_bipush (v := 9) dX0_row_21 rfl ?_
      refine s_callS_p (M2 := mX0_in) dX0_row_23 q373 stX0_in rfl (c_in _ _ _ _) rfl rfl ⟨by decide, by decide, by decide⟩ (Nat.le_of_ble_eq_true rfl) ?_
      refine s_ifne_b 32 dX0_row_26 (by decide) (fun c26 => ?_) (fun c26 => ?_)
      · skip
        obtain ⟨q, hq, rfl⟩ := isM_ex h6 c5
        have hpc : cl (nI q) = q := nI_clamp (by omega)
        obtain ⟨j, hj, rfl⟩ := inB_nI (n := 3) (by decide) c14
        have hjc : cl (nI j) = j := nI_clamp (by omega)
        have hm := rw.mo q hq
        have hv := hm.2.2.2 j (by omega)
        refine s_aload_n 0 dX0_row_32 rfl rfl ?_
        refine s_getP dX0_row_33 fl_X0_17 (fo_1_0.at (wk_16 w)) (wp_16_0 w) ?_
        refine s_iload_n 1 dX0_row_36 rfl rfl ?_
        refine s_aald (j := q) (jj := 6) dX0_row_37 (wk_17 w) rfl (ixn (wn_17 w) (ix_nI (by omega) (by decide))) rfl ?_
        refine v_kind hm.1.1 hm.1.2.1.1 dX0_row_38 q505 (by decide) (Nat.le_of_ble_eq_true rfl) ?_
        rw [← hm.2.1]
        refine s_bipush (v := 6) dX0_row_41 rfl ?_
        refine s_icmp_eq 49 dX0_row_43 (by decide) (fun c43 => ?_) (fun c43 => ?_)
        · skip
          refine s_aload_n 0 dX0_row_49 rfl rfl ?_
          refine s_getP dX0_row_50 fl_X0_21 (fo_1_1.at (wk_16 w)) (wp_16_1 w) ?_
          refine s_iconst (v := 4) dX0_row_53 rfl ?_
          refine s_iload_n 1 dX0_row_54 rfl rfl ?_
          refine s_imul dX0_row_55 ?_
          refine s_iload_n 2 dX0_row_56 rfl rfl ?_
          refine s_iadd dX0_row_57 ?_
          refine s_iald (j := (4 * q + j)) dX0_row_58 (wk_18 w) (ixn (wn_18 w) (ix_eq (nI_ma 4 q j) (by omega) (by decide))) ?_
          refine s_istore (ls' := [(4, _), (0, _), (1, _), (2, _), (3, _)]) dX0_row_59 (by decide) rfl ?_
          refine s_aload_n 0 dX0_row_61 rfl rfl ?_
          refine s_getP dX0_row_62 fl_X0_21 (fo_1_1.at (wk_16 w)) (wp_16_1 w) ?_
          refine s_iconst (v := 4) dX0_row_65 rfl ?_
          refine s_iload_n 1 dX0_row_66 rfl rfl ?_
          refine s_imul dX0_row_67 ?_
          refine s_iload_n 2 dX0_row_68 rfl rfl ?_
          refine s_iadd dX0_row_69 ?_
          refine s_iload_n 3 dX0_row_70 rfl rfl ?_
          refine s_iast (j := (4 * q + j)) dX0_row_71 (wk_18 w) (Nat.le_of_ble_eq_true rfl) (ixn (wn_18 w) (ix_eq (nI_ma 4 q j) (by omega) (by decide))) ?_
          refine s_iload dX0_row_72 rfl ?_
          exact s_ireturn .int dX0_row_74 rfl rfl ⟨by rw [(ro_4 ⟨c5, c14⟩ c26 (by rw [hpc]; exact c43)).1, hpc, hjc, hv], Chg.refl.s (by decide), by rw [(ro_4 ⟨c5, c14⟩ c26 (by rw [hpc]; exact c43)).2, hpc, hjc]; exact rw.rows hq (by omega)⟩
        · skip
          refine s_bipush (v := -3) dX0_row_46 rfl ?_
          exact s_ireturn .int dX0_row_48 rfl rfl ⟨by rw [(ro_3 ⟨c5, c14⟩ c26 (by rw [hpc]; exact c43)).1], Chg.refl, by rw [(ro_3 ⟨c5, c14⟩ c26 (by rw [hpc]; exact c43)).2]; exact rw⟩
      · skip
        refine s_bipush (v := -2) dX0_row_29 rfl ?_
        exact s_ireturn .int dX0_row_31 rfl rfl ⟨by rw [(ro_2 ⟨c5, c14⟩ c26).1], Chg.refl, by rw [(ro_2 ⟨c5, c14⟩ c26).2]; exact rw⟩
    · skip
      refine s_iconst (v := -1) dX0_row_17 rfl ?_
      exact s_ireturn .int dX0_row_18 rfl rfl ⟨by rw [(ro_1 (fun y => by rw [c14] at y; exact absurd y.2 (by decide))).1], Chg.refl, by rw [(ro_1 (fun y => by rw [c14] at y; exact absurd y.2 (by decide))).2]; exact rw⟩
def svV (m : Nat) (e : St) (x s : Int32) : Int32 := if x = -1 then 0 else if isM m x = true then (if inB s 0 999 = true then (if e 64 = 5 then -4 else e 64 + 1) else -2) else -1
def svS (m : Nat) (e : St) (x s : Int32) : St := if x = -1 then upE e 64 0 else if isM m x = true then (if inB s 0 999 = true then (if e 64 = 5 then e else upE (upE (upE e (65 + 2 * cl (e 64)) x) (66 + 2 * cl (e 64)) s) 64 (e 64 + 1)) else e) else e
def plV (m : Nat) (e : St) (w x : Int32) : Int32 := if w = -1 then 0 else if inB w 0 3 = false ∨ 0 < w ∧ isM m x = false then -1 else if e 75 = 8 then -4 else e 75 + 1
def plS (m : Nat) (e : St) (w x : Int32) : St := if w = -1 then upE e 75 0 else if inB w 0 3 = false ∨ 0 < w ∧ isM m x = false then e else if e 75 = 8 then e else upE (upE (upE e (76 + 2 * cl (e 75)) w) (77 + 2 * cl (e 75)) x) 75 (e 75 + 1)
def bkV (m : Nat) (e : St) (x y : Int32) : Int32 := if x = -1 then 0 else if isM m x = false ∨ inB y 0 9 = false then -1 else if e 92 = 8 then -4 else e 92 + 1
def bkS (m : Nat) (e : St) (x y : Int32) : St := if x = -1 then upE e 92 0 else if isM m x = false ∨ inB y 0 9 = false then e else if e 92 = 8 then e else upE (upE (upE e (93 + 2 * cl (e 92)) x) (94 + 2 * cl (e 92)) y) 92 (e 92 + 1)
/-- a row of pairs grows by one, in the heap and in the state: b is where it begins in the state -/
def PR (h : AH) (a1 a2 : Nat) (c : Int32) (b lim : Nat) (P : Int32 → Int32 → Prop) (e : St) : Prop := ∃ n, n ≤ lim ∧ c = nI n ∧ e b = nI n ∧ ∀ k, k < n → hI h a1 k = e (b + 1 + 2 * k) ∧ hI h a2 k = e (b + 2 + 2 * k) ∧ P (e (b + 1 + 2 * k)) (e (b + 2 + 2 * k))
theorem PR.clr {h : AH} {a1 a2 : Nat} {b lim : Nat} {P : Int32 → Int32 → Prop} {e : St} : PR h a1 a2 0 b lim P (upE e b 0) := ⟨0, Nat.zero_le _, rfl, upE_s, fun k hk => absurd hk (Nat.not_lt_zero _)⟩
theorem PR.add {h : AH} {a1 a2 : Nat} {b lim n : Nat} {P : Int32 → Int32 → Prop} {e : St} {x y : Int32} (hn : n < lim) (hb : e b = nI n) (h12 : a1 ≠ a2) (z : ∀ k, k < n → hI h a1 k = e (b + 1 + 2 * k) ∧ hI h a2 k = e (b + 2 + 2 * k) ∧ P (e (b + 1 + 2 * k)) (e (b + 2 + 2 * k))) (hP : P x y)
    {h' : AH} (ho : ∀ k, k ≠ n → hI h' a1 k = hI h a1 k ∧ hI h' a2 k = hI h a2 k) (h1 : hI h' a1 n = x) (h2 : hI h' a2 n = y) : PR h' a1 a2 (nI (n + 1)) b lim P (upE (upE (upE e (b + 1 + 2 * n) x) (b + 2 + 2 * n) y) b (nI (n + 1))) := by
  have e1 : ∀ k, upE (upE (upE e (b + 1 + 2 * n) x) (b + 2 + 2 * n) y) b (nI (n + 1)) (b + 1 + 2 * k) = if k = n then x else e (b + 1 + 2 * k) := by
    intro k
    rw [upE_o (by omega), upE_o (by omega)]
    by_cases c : k = n
    · subst c; rw [upE_s, if_pos rfl]
    · rw [upE_o (by omega), if_neg c]
  have e2 : ∀ k, upE (upE (upE e (b + 1 + 2 * n) x) (b + 2 + 2 * n) y) b (nI (n + 1)) (b + 2 + 2 * k) = if k = n then y else e (b + 2 + 2 * k) := by
    intro k
    rw [upE_o (by omega)]
    by_cases c : k = n
    · subst c; rw [upE_s, if_pos rfl]
    · rw [upE_o (by omega), upE_o (by omega), if_neg c]
  refine ⟨n + 1, hn, rfl, upE_s, fun k hk => ?_⟩
  rw [e1, e2]
  by_cases c : k = n
  · subst c
    rw [if_pos rfl, if_pos rfl, h1, h2]
    exact ⟨rfl, rfl, hP⟩
  · rw [if_neg c, if_neg c, (ho k c).1, (ho k c).2]
    exact z k (by omega)
def P64 (m : Nat) : Int32 → Int32 → Prop := fun x _ => ∃ q, q < m ∧ x = nI q
def P75 (m : Nat) : Int32 → Int32 → Prop := fun w x => ∃ k, k ≤ 3 ∧ w = nI k ∧ (0 < k → ∃ q, q < m ∧ x = nI q)
theorem c_see {h : AH} {m : Nat} {e : St} {pr : Pr} (rw : RW h 19 m e pr) {n : Nat} (hn : n ≤ 5) (hc : hI h 16 16 = nI n) (he : e 64 = nI n) (hs : ∀ k, k < n → hI h 33 k = e (64 + 1 + 2 * k) ∧ hI h 34 k = e (64 + 2 + 2 * k) ∧ P64 m (e (64 + 1 + 2 * k)) (e (64 + 2 + 2 * k))) (x s : Int32) : Con mX0_see 2 0 0 [.ref 16, .int x, .int s] h (retG (some (.int (svV m e x s))) (fun h' => Chg [16, 33, 34] h h' ∧ PR h' 33 34 (hI h' 16 16) 64 5 (P64 m) (svS m e x s))) nox := by
  have w := rw.w
  have tm := rw.tm
  have h6 := rw.m6
  have hmm := rw.tr.1
  have hold : PR h 33 34 (hI h 16 16) 64 5 (P64 m) e := ⟨n, hn, hc, he, hs⟩
  have hnc : cl (nI n) = n := nI_clamp (by omega)
  refine Con.of rfl rfl (Nat.le_of_ble_eq_true rfl) ?_
  refine s_iload_n 1 dX0_see_0 rfl rfl ?_
  refine s_iconst (v := -1) dX0_see_1 rfl ?_
  refine s_icmp_ne 12 dX0_see_2 (by decide) (fun c2 => ?_) (fun c2 => ?_)
  · skip
    refine s_aload_n 0 dX0_see_12 rfl rfl ?_
    refine s_iload_n 1 dX0_see_13 rfl rfl ?_
    refine s_callV_p (M2 := mX0_isMourner) dX0_see_14 q656 bX0_isMourner inX0_isMourner.2 qs13 rfl (c_isM rw.w hmm _) rfl rfl (rk (wk_16 w) rfl rfl) ⟨by decide, by decide, by decide⟩ (Nat.le_of_ble_eq_true rfl) ?_
    refine s_ifne_b 22 dX0_see_17 (by decide) (fun c17 => ?_) (fun c17 => ?_)
    · skip
      refine s_iload_n 2 dX0_see_22 rfl rfl ?_
      refine s_callS_p (M2 := mX0_isDebt) dX0_see_23 q691 stX0_isDebt rfl (c_isDebt _ _) rfl rfl ⟨by decide, by decide, by decide⟩ (Nat.le_of_ble_eq_true rfl) ?_
      refine s_ifne_b 32 dX0_see_26 (by decide) (fun c26 => ?_) (fun c26 => ?_)
      · skip
        refine s_aload_n 0 dX0_see_32 rfl rfl ?_
        refine s_getI dX0_see_33 fl_X0_313 (fo_1_16.at (wk_16 w)) ?_
        rw [hc]
        refine s_iconst (v := 5) dX0_see_36 rfl ?_
        refine s_icmp_ne 43 dX0_see_37 (by decide) (fun c37 => ?_) (fun c37 => ?_)
        · skip
          have hnl : n < 5 := by
            by_cases y : n = 5
            · subst y; exact absurd rfl c37
            · omega
          refine s_aload_n 0 dX0_see_43 rfl rfl ?_
          refine s_getP dX0_see_44 fl_X0_60 (fo_1_10.at (wk_16 w)) (wp_16_10 w) ?_
          refine s_aload_n 0 dX0_see_47 rfl rfl ?_
          refine s_getI dX0_see_48 fl_X0_313 (fo_1_16.at (wk_16 w)) ?_
          rw [hc]
          refine s_iload_n 1 dX0_see_51 rfl rfl ?_
          refine s_iast (j := n) dX0_see_52 (wk_33 w) (Nat.le_of_ble_eq_true rfl) (ixn (wn_33 w) (ix_nI (by omega) (by decide))) ?_
          refine s_aload_n 0 dX0_see_53 rfl rfl ?_
          refine s_getP dX0_see_54 fl_X0_63 (fo_1_11.at (wk_16 w)) (wp_16_11 w) ?_
          refine s_aload_n 0 dX0_see_57 rfl rfl ?_
          refine s_dup dX0_see_58 rfl ?_
          refine s_getI dX0_see_59 fl_X0_313 (fo_1_16.at (wk_16 w)) ?_
          rw [hI_sI_ne (by omega), hc]
          refine s_dup_x1 dX0_see_62 rfl rfl ?_
          refine s_iconst (v := 1) dX0_see_63 rfl ?_
          refine s_iadd dX0_see_64 ?_
          rw [← nI_succ]
          refine s_putJ dX0_see_65 fl_X0_313 (fo_1_16.at (wk_16 w)) (Nat.le_of_ble_eq_true rfl) (Or.inl (fn_at (wk_16 w) rfl)) (ty_at (wk_16 w) rfl) ?_
          refine s_iload_n 2 dX0_see_68 rfl rfl ?_
          refine s_iast (j := n) dX0_see_69 (wk_34 w) (Nat.le_of_ble_eq_true rfl) (ixn (wn_34 w) (ix_nI (by omega) (by decide))) ?_
          refine s_aload_n 0 dX0_see_70 rfl rfl ?_
          refine s_getI dX0_see_71 fl_X0_313 (fo_1_16.at (wk_16 w)) ?_
          rw [hI_sI_ne (by omega), hI_sI]
          exact s_ireturn .int dX0_see_74 rfl rfl ⟨by unfold svV; rw [if_neg c2, if_pos c17, if_pos c26, if_neg (by rw [he]; exact c37)]; rw [he, ← nI_succ], (((Chg.refl.s (by decide)).s (by decide)).s (by decide)), by unfold svS; rw [if_neg c2, if_pos c17, if_pos c26, if_neg (by rw [he]; exact c37)]; rw [he, hnc, ← nI_succ, hI_sI_ne (b := 16) (by omega), hI_sI]; exact PR.add hnl he (by decide) hs (isM_ex h6 c17) (fun k hk => ⟨by rw [hI_sI_ne (by omega), hI_sI_ne (by omega), hI_sI_ne (by omega)], by rw [hI_sI_ne (by omega), hI_sI_ne (by omega), hI_sI_ne (by omega)]⟩) (by rw [hI_sI_ne (by omega), hI_sI_ne (by omega), hI_sI]) hI_sI⟩
        · skip
          refine s_bipush (v := -4) dX0_see_40 rfl ?_
          exact s_ireturn .int dX0_see_42 rfl rfl ⟨by unfold svV; rw [if_neg c2, if_pos c17, if_pos c26, if_pos (by rw [he]; exact c37)], Chg.refl, by unfold svS; rw [if_neg c2, if_pos c17, if_pos c26, if_pos (by rw [he]; exact c37)]; exact hold⟩
      · skip
        refine s_bipush (v := -2) dX0_see_29 rfl ?_
        exact s_ireturn .int dX0_see_31 rfl rfl ⟨by unfold svV; rw [if_neg c2, if_pos c17, if_neg (by rw [c26]; decide)], Chg.refl, by unfold svS; rw [if_neg c2, if_pos c17, if_neg (by rw [c26]; decide)]; exact hold⟩
    · skip
      refine s_iconst (v := -1) dX0_see_20 rfl ?_
      exact s_ireturn .int dX0_see_21 rfl rfl ⟨by unfold svV; rw [if_neg c2, if_neg (by rw [c17]; decide)], Chg.refl, by unfold svS; rw [if_neg c2, if_neg (by rw [c17]; decide)]; exact hold⟩
  · skip
    refine s_aload_n 0 dX0_see_5 rfl rfl ?_
    refine s_iconst (v := 0) dX0_see_6 rfl ?_
    refine s_putJ dX0_see_7 fl_X0_313 (fo_1_16.at (wk_16 w)) (Nat.le_of_ble_eq_true rfl) (Or.inl (fn_at (wk_16 w) rfl)) (ty_at (wk_16 w) rfl) ?_
    refine s_iconst (v := 0) dX0_see_10 rfl ?_
    exact s_ireturn .int dX0_see_11 rfl rfl ⟨by unfold svV; rw [if_pos c2], Chg.refl.s (by decide), by unfold svS; rw [if_pos c2, hI_sI]; exact PR.clr⟩
theorem pl_ok {m : Nat} {w x : Int32} (hw : inB w 0 3 = true) (hx : 0 < w → isM m x = true) (h6 : m ≤ 6) : P75 m w x := by
  obtain ⟨k, hk, rfl⟩ := inB_nI (n := 3) (by decide) hw
  refine ⟨k, hk, rfl, fun h0 => isM_ex h6 (hx ?_)⟩
  exact nI_lt (a := 0) h0 (by omega)
theorem c_plan {h : AH} {m : Nat} {e : St} {pr : Pr} (rw : RW h 19 m e pr) {n : Nat} (hn : n ≤ 8) (hc : hI h 16 17 = nI n) (he : e 75 = nI n) (hs : ∀ k, k < n → hI h 35 k = e (75 + 1 + 2 * k) ∧ hI h 36 k = e (75 + 2 + 2 * k) ∧ P75 m (e (75 + 1 + 2 * k)) (e (75 + 2 + 2 * k))) (v x : Int32) : Con mX0_plan 2 0 0 [.ref 16, .int v, .int x] h (retG (some (.int (plV m e v x))) (fun h' => Chg [16, 35, 36] h h' ∧ PR h' 35 36 (hI h' 16 17) 75 8 (P75 m) (plS m e v x))) nox := by
  have w := rw.w
  have tm := rw.tm
  have h6 := rw.m6
  have hmm := rw.tr.1
  have hold : PR h 35 36 (hI h 16 17) 75 8 (P75 m) e := ⟨n, hn, hc, he, hs⟩
  have hnc : cl (nI n) = n := nI_clamp (by omega)
  refine Con.of rfl rfl (Nat.le_of_ble_eq_true rfl) ?_
  refine s_iload_n 1 dX0_plan_0 rfl rfl ?_
  refine s_iconst (v := -1) dX0_plan_1 rfl ?_
  refine s_icmp_ne 12 dX0_plan_2 (by decide) (fun c2 => ?_) (fun c2 => ?_)
  · skip
    refine s_iload_n 1 dX0_plan_12 rfl rfl ?_
    refine s_iconst (v := 0) dX0_plan_13 rfl ?_
    refine s_iconst (v := 3) dX0_plan_14 rfl ?_
    refine s_callS_p (M2 := mX0_in) dX0_plan_15 q373 stX0_in rfl (c_in _ _ _ _) rfl rfl ⟨by decide, by decide, by decide⟩ (Nat.le_of_ble_eq_true rfl) ?_
    refine s_ifeq_b 33 dX0_plan_18 (by decide) (fun c18 => ?_) (fun c18 => ?_)
    · skip
      refine s_iconst (v := -1) dX0_plan_33 rfl ?_
      exact s_ireturn .int dX0_plan_34 rfl rfl ⟨by unfold plV; rw [if_neg c2, if_pos (Or.inl c18)], Chg.refl, by unfold plS; rw [if_neg c2, if_pos (Or.inl c18)]; exact hold⟩
    · skip
      refine s_iload_n 1 dX0_plan_21 rfl rfl ?_
      refine s_if_le 35 dX0_plan_22 (by decide) (fun c22 => ?_) (fun c22 => ?_)
      · skip
        refine s_aload_n 0 dX0_plan_35 rfl rfl ?_
        refine s_getI dX0_plan_36 fl_X0_330 (fo_1_17.at (wk_16 w)) ?_
        rw [hc]
        refine s_bipush (v := 8) dX0_plan_39 rfl ?_
        refine s_icmp_ne 47 dX0_plan_41 (by decide) (fun c41 => ?_) (fun c41 => ?_)
        · skip
          have hnl : n < 8 := by
            by_cases y : n = 8
            · subst y; exact absurd rfl c41
            · omega
          refine s_aload_n 0 dX0_plan_47 rfl rfl ?_
          refine s_getP dX0_plan_48 fl_X0_66 (fo_1_12.at (wk_16 w)) (wp_16_12 w) ?_
          refine s_aload_n 0 dX0_plan_51 rfl rfl ?_
          refine s_getI dX0_plan_52 fl_X0_330 (fo_1_17.at (wk_16 w)) ?_
          rw [hc]
          refine s_iload_n 1 dX0_plan_55 rfl rfl ?_
          refine s_iast (j := n) dX0_plan_56 (wk_35 w) (Nat.le_of_ble_eq_true rfl) (ixn (wn_35 w) (ix_nI (by omega) (by decide))) ?_
          refine s_aload_n 0 dX0_plan_57 rfl rfl ?_
          refine s_getP dX0_plan_58 fl_X0_69 (fo_1_13.at (wk_16 w)) (wp_16_13 w) ?_
          refine s_aload_n 0 dX0_plan_61 rfl rfl ?_
          refine s_dup dX0_plan_62 rfl ?_
          refine s_getI dX0_plan_63 fl_X0_330 (fo_1_17.at (wk_16 w)) ?_
          rw [hI_sI_ne (by omega), hc]
          refine s_dup_x1 dX0_plan_66 rfl rfl ?_
          refine s_iconst (v := 1) dX0_plan_67 rfl ?_
          refine s_iadd dX0_plan_68 ?_
          rw [← nI_succ]
          refine s_putJ dX0_plan_69 fl_X0_330 (fo_1_17.at (wk_16 w)) (Nat.le_of_ble_eq_true rfl) (Or.inl (fn_at (wk_16 w) rfl)) (ty_at (wk_16 w) rfl) ?_
          refine s_iload_n 2 dX0_plan_72 rfl rfl ?_
          refine s_iast (j := n) dX0_plan_73 (wk_36 w) (Nat.le_of_ble_eq_true rfl) (ixn (wn_36 w) (ix_nI (by omega) (by decide))) ?_
          refine s_aload_n 0 dX0_plan_74 rfl rfl ?_
          refine s_getI dX0_plan_75 fl_X0_330 (fo_1_17.at (wk_16 w)) ?_
          rw [hI_sI_ne (by omega), hI_sI]
          exact s_ireturn .int dX0_plan_78 rfl rfl ⟨by unfold plV; rw [if_neg c2, if_neg (fun y => by rcases y with y | y; (rw [c18] at y; cases y); exact absurd y.1 (Int32.not_lt.mpr c22)), if_neg (by rw [he]; exact c41)]; rw [he, ← nI_succ], (((Chg.refl.s (by decide)).s (by decide)).s (by decide)), by unfold plS; rw [if_neg c2, if_neg (fun y => by rcases y with y | y; (rw [c18] at y; cases y); exact absurd y.1 (Int32.not_lt.mpr c22)), if_neg (by rw [he]; exact c41)]; rw [he, hnc, ← nI_succ, hI_sI_ne (b := 16) (by omega), hI_sI]; exact PR.add hnl he (by decide) hs (pl_ok c18 (fun y => absurd y (Int32.not_lt.mpr c22)) h6) (fun k hk => ⟨by rw [hI_sI_ne (by omega), hI_sI_ne (by omega), hI_sI_ne (by omega)], by rw [hI_sI_ne (by omega), hI_sI_ne (by omega), hI_sI_ne (by omega)]⟩) (by rw [hI_sI_ne (by omega), hI_sI_ne (by omega), hI_sI]) hI_sI⟩
        · skip
          refine s_bipush (v := -4) dX0_plan_44 rfl ?_
          exact s_ireturn .int dX0_plan_46 rfl rfl ⟨by unfold plV; rw [if_neg c2, if_neg (fun y => by rcases y with y | y; (rw [c18] at y; cases y); exact absurd y.1 (Int32.not_lt.mpr c22)), if_pos (by rw [he]; exact c41)], Chg.refl, by unfold plS; rw [if_neg c2, if_neg (fun y => by rcases y with y | y; (rw [c18] at y; cases y); exact absurd y.1 (Int32.not_lt.mpr c22)), if_pos (by rw [he]; exact c41)]; exact hold⟩
      · skip
        refine s_aload_n 0 dX0_plan_25 rfl rfl ?_
        refine s_iload_n 2 dX0_plan_26 rfl rfl ?_
        refine s_callV_p (M2 := mX0_isMourner) dX0_plan_27 q656 bX0_isMourner inX0_isMourner.2 qs13 rfl (c_isM rw.w hmm _) rfl rfl (rk (wk_16 w) rfl rfl) ⟨by decide, by decide, by decide⟩ (Nat.le_of_ble_eq_true rfl) ?_
        refine s_ifne_b 35 dX0_plan_30 (by decide) (fun c30 => ?_) (fun c30 => ?_)
        · skip
          refine s_aload_n 0 dX0_plan_35 rfl rfl ?_
          refine s_getI dX0_plan_36 fl_X0_330 (fo_1_17.at (wk_16 w)) ?_
          rw [hc]
          refine s_bipush (v := 8) dX0_plan_39 rfl ?_
          refine s_icmp_ne 47 dX0_plan_41 (by decide) (fun c41 => ?_) (fun c41 => ?_)
          · skip
            have hnl : n < 8 := by
              by_cases y : n = 8
              · subst y; exact absurd rfl c41
              · omega
            refine s_aload_n 0 dX0_plan_47 rfl rfl ?_
            refine s_getP dX0_plan_48 fl_X0_66 (fo_1_12.at (wk_16 w)) (wp_16_12 w) ?_
            refine s_aload_n 0 dX0_plan_51 rfl rfl ?_
            refine s_getI dX0_plan_52 fl_X0_330 (fo_1_17.at (wk_16 w)) ?_
            rw [hc]
            refine s_iload_n 1 dX0_plan_55 rfl rfl ?_
            refine s_iast (j := n) dX0_plan_56 (wk_35 w) (Nat.le_of_ble_eq_true rfl) (ixn (wn_35 w) (ix_nI (by omega) (by decide))) ?_
            refine s_aload_n 0 dX0_plan_57 rfl rfl ?_
            refine s_getP dX0_plan_58 fl_X0_69 (fo_1_13.at (wk_16 w)) (wp_16_13 w) ?_
            refine s_aload_n 0 dX0_plan_61 rfl rfl ?_
            refine s_dup dX0_plan_62 rfl ?_
            refine s_getI dX0_plan_63 fl_X0_330 (fo_1_17.at (wk_16 w)) ?_
            rw [hI_sI_ne (by omega), hc]
            refine s_dup_x1 dX0_plan_66 rfl rfl ?_
            refine s_iconst (v := 1) dX0_plan_67 rfl ?_
            refine s_iadd dX0_plan_68 ?_
            rw [← nI_succ]
            refine s_putJ dX0_plan_69 fl_X0_330 (fo_1_17.at (wk_16 w)) (Nat.le_of_ble_eq_true rfl) (Or.inl (fn_at (wk_16 w) rfl)) (ty_at (wk_16 w) rfl) ?_
            refine s_iload_n 2 dX0_plan_72 rfl rfl ?_
            refine s_iast (j := n) dX0_plan_73 (wk_36 w) (Nat.le_of_ble_eq_true rfl) (ixn (wn_36 w) (ix_nI (by omega) (by decide))) ?_
            refine s_aload_n 0 dX0_plan_74 rfl rfl ?_
            refine s_getI dX0_plan_75 fl_X0_330 (fo_1_17.at (wk_16 w)) ?_
            rw [hI_sI_ne (by omega), hI_sI]
            exact s_ireturn .int dX0_plan_78 rfl rfl ⟨by unfold plV; rw [if_neg c2, if_neg (fun y => by rcases y with y | y; (rw [c18] at y; cases y); have y2 := y.2; rw [c30] at y2; cases y2), if_neg (by rw [he]; exact c41)]; rw [he, ← nI_succ], (((Chg.refl.s (by decide)).s (by decide)).s (by decide)), by unfold plS; rw [if_neg c2, if_neg (fun y => by rcases y with y | y; (rw [c18] at y; cases y); have y2 := y.2; rw [c30] at y2; cases y2), if_neg (by rw [he]; exact c41)]; rw [he, hnc, ← nI_succ, hI_sI_ne (b := 16) (by omega), hI_sI]; exact PR.add hnl he (by decide) hs (pl_ok c18 (fun _ => c30) h6) (fun k hk => ⟨by rw [hI_sI_ne (by omega), hI_sI_ne (by omega), hI_sI_ne (by omega)], by rw [hI_sI_ne (by omega), hI_sI_ne (by omega), hI_sI_ne (by omega)]⟩) (by rw [hI_sI_ne (by omega), hI_sI_ne (by omega), hI_sI]) hI_sI⟩
          · skip
            refine s_bipush (v := -4) dX0_plan_44 rfl ?_
            exact s_ireturn .int dX0_plan_46 rfl rfl ⟨by unfold plV; rw [if_neg c2, if_neg (fun y => by rcases y with y | y; (rw [c18] at y; cases y); have y2 := y.2; rw [c30] at y2; cases y2), if_pos (by rw [he]; exact c41)], Chg.refl, by unfold plS; rw [if_neg c2, if_neg (fun y => by rcases y with y | y; (rw [c18] at y; cases y); have y2 := y.2; rw [c30] at y2; cases y2), if_pos (by rw [he]; exact c41)]; exact hold⟩
        · skip
          refine s_iconst (v := -1) dX0_plan_33 rfl ?_
          exact s_ireturn .int dX0_plan_34 rfl rfl ⟨by unfold plV; rw [if_neg c2, if_pos (Or.inr ⟨Int32.not_le.mp c22, c30⟩)], Chg.refl, by unfold plS; rw [if_neg c2, if_pos (Or.inr ⟨Int32.not_le.mp c22, c30⟩)]; exact hold⟩
  · skip
    refine s_aload_n 0 dX0_plan_5 rfl rfl ?_
    refine s_iconst (v := 0) dX0_plan_6 rfl ?_
    refine s_putJ dX0_plan_7 fl_X0_330 (fo_1_17.at (wk_16 w)) (Nat.le_of_ble_eq_true rfl) (Or.inl (fn_at (wk_16 w) rfl)) (ty_at (wk_16 w) rfl) ?_
    refine s_iconst (v := 0) dX0_plan_10 rfl ?_
    exact s_ireturn .int dX0_plan_11 rfl rfl ⟨by unfold plV; rw [if_pos c2], Chg.refl.s (by decide), by unfold plS; rw [if_pos c2, hI_sI]; exact PR.clr⟩
theorem c_book {h : AH} {m : Nat} {e : St} {pr : Pr} (rw : RW h 19 m e pr) {n : Nat} (hn : n ≤ 8) (hc : hI h 16 18 = nI n) (he : e 92 = nI n) (hs : ∀ k, k < n → hI h 37 k = e (92 + 1 + 2 * k) ∧ hI h 38 k = e (92 + 2 + 2 * k) ∧ P64 m (e (92 + 1 + 2 * k)) (e (92 + 2 + 2 * k))) (x y : Int32) : Con mX0_book 2 0 0 [.ref 16, .int x, .int y] h (retG (some (.int (bkV m e x y))) (fun h' => Chg [16, 37, 38] h h' ∧ PR h' 37 38 (hI h' 16 18) 92 8 (P64 m) (bkS m e x y))) nox := by
  have w := rw.w
  have tm := rw.tm
  have h6 := rw.m6
  have hmm := rw.tr.1
  have hold : PR h 37 38 (hI h 16 18) 92 8 (P64 m) e := ⟨n, hn, hc, he, hs⟩
  have hnc : cl (nI n) = n := nI_clamp (by omega)
  refine Con.of rfl rfl (Nat.le_of_ble_eq_true rfl) ?_
  refine s_iload_n 1 dX0_book_0 rfl rfl ?_
  refine s_iconst (v := -1) dX0_book_1 rfl ?_
  refine s_icmp_ne 12 dX0_book_2 (by decide) (fun c2 => ?_) (fun c2 => ?_)
  · skip
    refine s_aload_n 0 dX0_book_12 rfl rfl ?_
    refine s_iload_n 1 dX0_book_13 rfl rfl ?_
    refine s_callV_p (M2 := mX0_isMourner) dX0_book_14 q656 bX0_isMourner inX0_isMourner.2 qs13 rfl (c_isM rw.w hmm _) rfl rfl (rk (wk_16 w) rfl rfl) ⟨by decide, by decide, by decide⟩ (Nat.le_of_ble_eq_true rfl) ?_
    refine s_ifeq_b 27 dX0_book_17 (by decide) (fun c17 => ?_) (fun c17 => ?_)
    · skip
      refine s_iconst (v := -1) dX0_book_27 rfl ?_
      exact s_ireturn .int dX0_book_28 rfl rfl ⟨by unfold bkV; rw [if_neg c2, if_pos (Or.inl c17)], Chg.refl, by unfold bkS; rw [if_neg c2, if_pos (Or.inl c17)]; exact hold⟩
    · skip
      refine s_iload_n 2 dX0_book_20 rfl rfl ?_
      refine s_callS_p (M2 := mX0_isYard) dX0_book_21 q376 stX0_isYard rfl (c_isYard _ _) rfl rfl ⟨by decide, by decide, by decide⟩ (Nat.le_of_ble_eq_true rfl) ?_
      refine s_ifne_b 29 dX0_book_24 (by decide) (fun c24 => ?_) (fun c24 => ?_)
      · skip
        refine s_aload_n 0 dX0_book_29 rfl rfl ?_
        refine s_getI dX0_book_30 fl_X0_343 (fo_1_18.at (wk_16 w)) ?_
        rw [hc]
        refine s_bipush (v := 8) dX0_book_33 rfl ?_
        refine s_icmp_ne 41 dX0_book_35 (by decide) (fun c35 => ?_) (fun c35 => ?_)
        · skip
          have hnl : n < 8 := by
            by_cases y : n = 8
            · subst y; exact absurd rfl c35
            · omega
          refine s_aload_n 0 dX0_book_41 rfl rfl ?_
          refine s_getP dX0_book_42 fl_X0_72 (fo_1_14.at (wk_16 w)) (wp_16_14 w) ?_
          refine s_aload_n 0 dX0_book_45 rfl rfl ?_
          refine s_getI dX0_book_46 fl_X0_343 (fo_1_18.at (wk_16 w)) ?_
          rw [hc]
          refine s_iload_n 1 dX0_book_49 rfl rfl ?_
          refine s_iast (j := n) dX0_book_50 (wk_37 w) (Nat.le_of_ble_eq_true rfl) (ixn (wn_37 w) (ix_nI (by omega) (by decide))) ?_
          refine s_aload_n 0 dX0_book_51 rfl rfl ?_
          refine s_getP dX0_book_52 fl_X0_75 (fo_1_15.at (wk_16 w)) (wp_16_15 w) ?_
          refine s_aload_n 0 dX0_book_55 rfl rfl ?_
          refine s_dup dX0_book_56 rfl ?_
          refine s_getI dX0_book_57 fl_X0_343 (fo_1_18.at (wk_16 w)) ?_
          rw [hI_sI_ne (by omega), hc]
          refine s_dup_x1 dX0_book_60 rfl rfl ?_
          refine s_iconst (v := 1) dX0_book_61 rfl ?_
          refine s_iadd dX0_book_62 ?_
          rw [← nI_succ]
          refine s_putJ dX0_book_63 fl_X0_343 (fo_1_18.at (wk_16 w)) (Nat.le_of_ble_eq_true rfl) (Or.inl (fn_at (wk_16 w) rfl)) (ty_at (wk_16 w) rfl) ?_
          refine s_iload_n 2 dX0_book_66 rfl rfl ?_
          refine s_iast (j := n) dX0_book_67 (wk_38 w) (Nat.le_of_ble_eq_true rfl) (ixn (wn_38 w) (ix_nI (by omega) (by decide))) ?_
          refine s_aload_n 0 dX0_book_68 rfl rfl ?_
          refine s_getI dX0_book_69 fl_X0_343 (fo_1_18.at (wk_16 w)) ?_
          rw [hI_sI_ne (by omega), hI_sI]
          exact s_ireturn .int dX0_book_72 rfl rfl ⟨by unfold bkV; rw [if_neg c2, if_neg (fun y => by rw [c17, c24] at y; exact absurd y (by decide)), if_neg (by rw [he]; exact c35)]; rw [he, ← nI_succ], (((Chg.refl.s (by decide)).s (by decide)).s (by decide)), by unfold bkS; rw [if_neg c2, if_neg (fun y => by rw [c17, c24] at y; exact absurd y (by decide)), if_neg (by rw [he]; exact c35)]; rw [he, hnc, ← nI_succ, hI_sI_ne (b := 16) (by omega), hI_sI]; exact PR.add hnl he (by decide) hs (isM_ex h6 c17) (fun k hk => ⟨by rw [hI_sI_ne (by omega), hI_sI_ne (by omega), hI_sI_ne (by omega)], by rw [hI_sI_ne (by omega), hI_sI_ne (by omega), hI_sI_ne (by omega)]⟩) (by rw [hI_sI_ne (by omega), hI_sI_ne (by omega), hI_sI]) hI_sI⟩
        · skip
          refine s_bipush (v := -4) dX0_book_38 rfl ?_
          exact s_ireturn .int dX0_book_40 rfl rfl ⟨by unfold bkV; rw [if_neg c2, if_neg (fun y => by rw [c17, c24] at y; exact absurd y (by decide)), if_pos (by rw [he]; exact c35)], Chg.refl, by unfold bkS; rw [if_neg c2, if_neg (fun y => by rw [c17, c24] at y; exact absurd y (by decide)), if_pos (by rw [he]; exact c35)]; exact hold⟩
      · skip
        refine s_iconst (v := -1) dX0_book_27 rfl ?_
        exact s_ireturn .int dX0_book_28 rfl rfl ⟨by unfold bkV; rw [if_neg c2, if_pos (Or.inr c24)], Chg.refl, by unfold bkS; rw [if_neg c2, if_pos (Or.inr c24)]; exact hold⟩
  · skip
    refine s_aload_n 0 dX0_book_5 rfl rfl ?_
    refine s_iconst (v := 0) dX0_book_6 rfl ?_
    refine s_putJ dX0_book_7 fl_X0_343 (fo_1_18.at (wk_16 w)) (Nat.le_of_ble_eq_true rfl) (Or.inl (fn_at (wk_16 w) rfl)) (ty_at (wk_16 w) rfl) ?_
    refine s_iconst (v := 0) dX0_book_10 rfl ?_
    exact s_ireturn .int dX0_book_11 rfl rfl ⟨by unfold bkV; rw [if_pos c2], Chg.refl.s (by decide), by unfold bkS; rw [if_pos c2, hI_sI]; exact PR.clr⟩
