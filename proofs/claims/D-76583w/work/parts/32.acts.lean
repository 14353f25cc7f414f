/-! the component: feeding, acts, the image -/
set_option maxRecDepth 100000
def feV (n : Nat) (x : Int32) : Int32 := if inB x 0 127 = true then (if n = 100 then -4 else nI (n + 1)) else -2
def feH (h : AH) (n : Nat) (x : Int32) : AH := if inB x 0 127 = true then (if n = 100 then h else sI (sI h 16 5 (nI (n + 1))) 27 n x) else h
theorem c_feed {h : AH} (w : WF h) {n : Nat} (hn : n ≤ 100) (hc : hI h 16 5 = nI n) (x : Int32) : Con mX0_feed 1 0 0 [.ref 16, .int x] h (retH (some (.int (feV n x))) (feH h n x)) nox := by
  refine Con.of rfl rfl (Nat.le_of_ble_eq_true rfl) ?_
  refine s_iload_n 1 dX0_feed_0 rfl rfl ?_
  refine s_iconst (v := 0) dX0_feed_1 rfl ?_
  refine s_bipush (v := 127) dX0_feed_2 rfl ?_
  refine s_callS_p (M2 := mX0_in) dX0_feed_4 q373 stX0_in rfl (c_in _ _ _ _) rfl rfl ⟨by decide, by decide, by decide⟩ (Nat.le_of_ble_eq_true rfl) ?_
  refine s_ifne_b 13 dX0_feed_7 (by decide) (fun c7 => ?_) (fun c7 => ?_)
  · skip
    refine s_aload_n 0 dX0_feed_13 rfl rfl ?_
    refine s_getI dX0_feed_14 fl_X0_274 (fo_1_5.at (wk_16 w)) ?_
    rw [hc]
    refine s_bipush (v := 100) dX0_feed_17 rfl ?_
    refine s_icmp_ne 25 dX0_feed_19 (by decide) (fun c19 => ?_) (fun c19 => ?_)
    · skip
      have hnl : n < 100 := by
        by_cases y : n = 100
        · subst y; exact absurd rfl c19
        · omega
      obtain ⟨j, hj, rfl⟩ := inB_nI (n := 127) (by decide) c7
      refine s_aload_n 0 dX0_feed_25 rfl rfl ?_
      refine s_getP dX0_feed_26 fl_X0_35 (fo_1_4.at (wk_16 w)) (wp_16_4 w) ?_
      refine s_aload_n 0 dX0_feed_29 rfl rfl ?_
      refine s_dup dX0_feed_30 rfl ?_
      refine s_getI dX0_feed_31 fl_X0_274 (fo_1_5.at (wk_16 w)) ?_
      rw [hc]
      refine s_dup_x1 dX0_feed_34 rfl rfl ?_
      refine s_iconst (v := 1) dX0_feed_35 rfl ?_
      refine s_iadd dX0_feed_36 ?_
      rw [← nI_succ]
      refine s_putJ dX0_feed_37 fl_X0_274 (fo_1_5.at (wk_16 w)) (Nat.le_of_ble_eq_true rfl) (Or.inl (fn_at (wk_16 w) rfl)) (ty_at (wk_16 w) rfl) ?_
      refine s_iload_n 1 dX0_feed_40 rfl rfl ?_
      refine s_i2b dX0_feed_41 ?_
      rw [nI_b j (by omega)]
      refine s_bast (j := n) dX0_feed_42 (wk_27 w) (Nat.le_of_ble_eq_true rfl) (ixn (wn_27 w) (ix_nI (by omega) (by decide))) ?_
      rw [nI_b j (by omega)]
      refine s_aload_n 0 dX0_feed_43 rfl rfl ?_
      refine s_getI dX0_feed_44 fl_X0_274 (fo_1_5.at (wk_16 w)) ?_
      rw [hI_sI_ne (by omega), hI_sI]
      exact s_ireturn .int dX0_feed_47 rfl rfl ⟨by unfold feV; rw [if_pos c7, if_neg (by omega)], by unfold feH; rw [if_pos c7, if_neg (by omega)]⟩
    · skip
      have hn100 : n = 100 := nI_inj (by omega) (by decide) c19
      refine s_bipush (v := -4) dX0_feed_22 rfl ?_
      exact s_ireturn .int dX0_feed_24 rfl rfl ⟨by unfold feV; rw [if_pos c7, if_pos hn100], by unfold feH; rw [if_pos c7, if_pos hn100]⟩
  · skip
    refine s_bipush (v := -2) dX0_feed_10 rfl ?_
    exact s_ireturn .int dX0_feed_12 rfl rfl ⟨by unfold feV; rw [if_neg (by rw [c7]; decide)], by unfold feH; rw [if_neg (by rw [c7]; decide)]⟩
def coV (h : AH) (what : Int32) : Int32 := if what = 0 then hI h 19 3 else if what = 1 then hI h 16 6 else if what = 2 then hI h 16 16 else if what = 3 then hI h 16 17 else if what = 4 then hI h 16 18 else if what = 5 then hI h 16 5 else if what = 6 then hI h 31 1 else -2
theorem c_count {h : AH} (w : WF h) (what : Int32) : Con mX0_count 1 0 0 [.ref 16, .int what] h (retV (.int (coV h what)) h) nox := by
  refine Con.of rfl rfl (Nat.le_of_ble_eq_true rfl) ?_
  refine s_iload_n 1 dX0_count_0 rfl rfl ?_
  by_cases w0 : what = 0
  · subst w0
    refine s_tableIn 44 dX0_count_1 (by decide) (by decide) rfl (by decide) ?_
    refine s_aload_n 0 dX0_count_44 rfl rfl ?_
    refine s_getP dX0_count_45 fl_X0_28 (fo_1_2.at (wk_16 w)) (wp_16_2 w) ?_
    refine s_getI dX0_count_48 fl_X0_115 (fo_2_3.at (wk_19 w)) ?_
    exact s_ireturn .int dX0_count_51 rfl rfl (rve rfl)
  by_cases w1 : what = 1
  · subst w1
    refine s_tableIn 52 dX0_count_1 (by decide) (by decide) rfl (by decide) ?_
    refine s_aload_n 0 dX0_count_52 rfl rfl ?_
    refine s_getI dX0_count_53 fl_X0_277 (fo_1_6.at (wk_16 w)) ?_
    exact s_ireturn .int dX0_count_56 rfl rfl (rve rfl)
  by_cases w2 : what = 2
  · subst w2
    refine s_tableIn 57 dX0_count_1 (by decide) (by decide) rfl (by decide) ?_
    refine s_aload_n 0 dX0_count_57 rfl rfl ?_
    refine s_getI dX0_count_58 fl_X0_313 (fo_1_16.at (wk_16 w)) ?_
    exact s_ireturn .int dX0_count_61 rfl rfl (rve rfl)
  by_cases w3 : what = 3
  · subst w3
    refine s_tableIn 62 dX0_count_1 (by decide) (by decide) rfl (by decide) ?_
    refine s_aload_n 0 dX0_count_62 rfl rfl ?_
    refine s_getI dX0_count_63 fl_X0_330 (fo_1_17.at (wk_16 w)) ?_
    exact s_ireturn .int dX0_count_66 rfl rfl (rve rfl)
  by_cases w4 : what = 4
  · subst w4
    refine s_tableIn 67 dX0_count_1 (by decide) (by decide) rfl (by decide) ?_
    refine s_aload_n 0 dX0_count_67 rfl rfl ?_
    refine s_getI dX0_count_68 fl_X0_343 (fo_1_18.at (wk_16 w)) ?_
    exact s_ireturn .int dX0_count_71 rfl rfl (rve rfl)
  by_cases w5 : what = 5
  · subst w5
    refine s_tableIn 72 dX0_count_1 (by decide) (by decide) rfl (by decide) ?_
    refine s_aload_n 0 dX0_count_72 rfl rfl ?_
    refine s_getI dX0_count_73 fl_X0_274 (fo_1_5.at (wk_16 w)) ?_
    exact s_ireturn .int dX0_count_76 rfl rfl (rve rfl)
  by_cases w6 : what = 6
  · subst w6
    refine s_tableIn 77 dX0_count_1 (by decide) (by decide) rfl (by decide) ?_
    refine s_aload_n 0 dX0_count_77 rfl rfl ?_
    refine s_getP dX0_count_78 fl_X0_56 (fo_1_9.at (wk_16 w)) (wp_16_9 w) ?_
    refine s_getI dX0_count_81 fl_X0_383 (fo_5_1.at (wk_31 w)) ?_
    exact s_ireturn .int dX0_count_84 rfl rfl (rve rfl)
  refine s_tableOut 85 dX0_count_1 (sw_n (n := 6) (fun k hk => match k, hk with | 0, _ => w0 | 1, _ => w1 | 2, _ => w2 | 3, _ => w3 | 4, _ => w4 | 5, _ => w5 | 6, _ => w6 | k + 7, hh => absurd hh (by omega))) (by decide) ?_
  refine s_bipush (v := -2) dX0_count_85 rfl ?_
  exact s_ireturn .int dX0_count_87 rfl rfl (rve (by unfold coV; rw [if_neg w0, if_neg w1, if_neg w2, if_neg w3, if_neg w4, if_neg w5, if_neg w6]))
def trV (h : AH) (i : Int32) : Int32 := if inB i 0 (minJ (hI h 31 1) 20 - 1) = true then hI h 32 (cl i) else -1
theorem tr_ix {n : Nat} (hn : n < 1000000) {i : Int32} (h : inB i 0 (minJ (nI n) 20 - 1) = true) : ∃ k, k < 20 ∧ k < n ∧ i = nI k := by
  have h1 := of_decide_eq_true h
  have h2 : (0 : Int) ≤ i.toInt := Int32.le_iff_toInt_le.mp h1.1
  by_cases c : 20 < n
  · have e : minJ (nI n) 20 - 1 = nI 19 := by unfold minJ; rw [if_pos (show (20 : Int32) < nI n from nI_lt (a := 20) c (by omega))]; rfl
    rw [e] at h
    obtain ⟨k, hk, rfl⟩ := inB_nI (by decide) h
    exact ⟨k, by omega, by omega, rfl⟩
  · have e : minJ (nI n) 20 - 1 = nI n - 1 := by unfold minJ; rw [if_neg (show ¬ (20 : Int32) < nI n from fun y => by rw [Int32.lt_iff_toInt_lt, nI_toInt (by omega)] at y; have : (20 : Int32).toInt = 20 := rfl; omega)]
    rw [e] at h
    rcases Nat.eq_zero_or_pos n with rfl | h0
    · rw [e] at h1
      have h3 : i.toInt ≤ (nI 0 - 1).toInt := Int32.le_iff_toInt_le.mp h1.2
      have : (nI 0 - 1).toInt = -1 := rfl
      omega
    · rw [show nI n - 1 = nI (n - 1) from pk_sub (b := 1) (by omega)] at h
      obtain ⟨k, hk, rfl⟩ := inB_nI (by omega) h
      exact ⟨k, by omega, by omega, rfl⟩
theorem c_trace {h : AH} {n : Nat} (tr : TrO h n) (hn : n < 1000000) (i : Int32) : Con mX0_trace 1 0 0 [.ref 16, .int i] h (retV (.int (trV h i)) h) nox := by
  refine Con.of rfl rfl (Nat.le_of_ble_eq_true rfl) ?_
  refine s_iload_n 1 dX0_trace_0 rfl rfl ?_
  refine s_iconst (v := 0) dX0_trace_1 rfl ?_
  refine s_aload_n 0 dX0_trace_2 rfl rfl ?_
  refine s_getP dX0_trace_3 fl_X0_56 (fo_1_9.at (wk_16 tr.1)) (wp_16_9 tr.1) ?_
  refine s_getI dX0_trace_6 fl_X0_383 (fo_5_1.at (wk_31 tr.1)) ?_
  refine s_bipush (v := 20) dX0_trace_9 rfl ?_
  refine s_mmin dX0_trace_11 q649 (by decide) (Nat.le_of_ble_eq_true rfl) ?_
  refine s_iconst (v := 1) dX0_trace_14 rfl ?_
  refine s_isub dX0_trace_15 ?_
  refine s_callS_p (M2 := mX0_in) dX0_trace_16 q373 stX0_in rfl (c_in _ _ _ _) rfl rfl ⟨by decide, by decide, by decide⟩ (Nat.le_of_ble_eq_true rfl) ?_
  refine s_ifeq_b 34 dX0_trace_19 (by decide) (fun c19 => ?_) (fun c19 => ?_)
  · skip
    refine s_iconst (v := -1) dX0_trace_34 rfl ?_
    exact s_ireturn .int dX0_trace_35 rfl rfl (rve (if_neg (by rw [c19]; decide)))
  · skip
    obtain ⟨k, hk, hkn, rfl⟩ := tr_ix hn (by rw [← tr.2]; exact c19)
    refine s_aload_n 0 dX0_trace_22 rfl rfl ?_
    refine s_getP dX0_trace_23 fl_X0_56 (fo_1_9.at (wk_16 tr.1)) (wp_16_9 tr.1) ?_
    refine s_getP dX0_trace_26 fl_X0_395 (fo_5_0.at (wk_31 tr.1)) (wp_31_0 tr.1) ?_
    refine s_iload_n 1 dX0_trace_29 rfl rfl ?_
    refine s_iald (j := k) dX0_trace_30 (wk_32 tr.1) (ixn (wn_32 tr.1) (ix_nI (by omega) (by decide))) ?_
    refine s_goto 35 dX0_trace_31 (by decide) ?_
    exact s_ireturn .int dX0_trace_35 rfl rfl (rve ((if_pos c19).trans (by rw [show cl (nI k) = k from nI_clamp (by omega)])))
/-- an act: what runs, what it answers -/
def acL (m : Nat) (e : St) (x act y : Int32) : List Int32 × Int32 := if isM m x = true ∧ inB act 0 2 = true then (if act = 0 then sta (kE e (cl x)) x (e (10 * cl x + 1)) y else if act = 1 then sig (kE e (cl x)) x (e (10 * cl x + 1)) y else tel (kE e (cl x)) x (e (10 * cl x + 1)) y) else ([], 0)
theorem acL_p {m p : Nat} {e : St} {act y : Int32} (h6 : m ≤ 6) (hp : p < m) (ha : inB act 0 2 = true) : acL m e (nI p) act y = (if act = 0 then sta (kE e p) (nI p) (e (10 * p + 1)) y else if act = 1 then sig (kE e p) (nI p) (e (10 * p + 1)) y else tel (kE e p) (nI p) (e (10 * p + 1)) y) := by
  unfold acL
  rw [if_pos ⟨isM_p h6 hp, ha⟩, show cl (nI p) = p from nI_clamp (by omega)]
theorem c_act {h : AH} {m : Nat} {e : St} {pr : Pr} (rw : RW h 19 m e pr) (x act y : Int32) : Con mX0_act 9 0 0 [.ref 16, .int x, .int act, .int y] h (retH (some (.int (acL m e x act y).2)) (ranL (sI h 31 1 0) (acL m e x act y).1)) nox := by
  have w := rw.w
  have tm := rw.tm
  have h6 := rw.m6
  have hmm := rw.tr.1
  have x0 : Chg [31] h (sI h 31 1 0) := Chg.refl.s (by decide)
  have tr0 : TrO (sI h 31 1 0) 0 := ⟨w.chg x0, hI_sI⟩
  refine Con.of rfl rfl (Nat.le_of_ble_eq_true rfl) ?_
  refine s_aload_n 0 dX0_act_0 rfl rfl ?_
  refine s_getP dX0_act_1 fl_X0_56 (fo_1_9.at (wk_16 w)) (wp_16_9 w) ?_
  refine s_iconst (v := 0) dX0_act_4 rfl ?_
  refine s_putJ dX0_act_5 fl_X0_383 (fo_5_1.at (wk_31 w)) (Nat.le_of_ble_eq_true rfl) (Or.inl (fn_at (wk_31 w) rfl)) (ty_at (wk_31 w) rfl) ?_
  refine s_aload_n 0 dX0_act_8 rfl rfl ?_
  refine s_iload_n 1 dX0_act_9 rfl rfl ?_
  refine s_callV_p (M2 := mX0_isMourner) dX0_act_10 q656 bX0_isMourner inX0_isMourner.2 qs13 rfl (c_isM (w.chg x0) (by rw [x0.i (by decide)]; exact hmm) _) rfl rfl (rk (wk_16 w) rfl rfl) ⟨by decide, by decide, by decide⟩ (Nat.le_of_ble_eq_true rfl) ?_
  refine s_ifeq_b 25 dX0_act_13 (by decide) (fun c13 => ?_) (fun c13 => ?_)
  · skip
    refine s_iconst (v := 0) dX0_act_25 rfl ?_
    exact s_ireturn .int dX0_act_26 rfl rfl ⟨by unfold acL; rw [if_neg (fun y => by rw [c13] at y; exact absurd y.1 (by decide))], by unfold acL; rw [if_neg (fun y => by rw [c13] at y; exact absurd y.1 (by decide))]; rfl⟩
  · skip
    refine s_iload_n 2 dX0_act_16 rfl rfl ?_
    refine s_iconst (v := 0) dX0_act_17 rfl ?_
    refine s_iconst (v := 2) dX0_act_18 rfl ?_
    refine s_callS_p (M2 := mX0_in) dX0_act_19 q373 stX0_in rfl (c_in _ _ _ _) rfl rfl ⟨by decide, by decide, by decide⟩ (Nat.le_of_ble_eq_true rfl) ?_
    refine s_ifne_b 27 dX0_act_22 (by decide) (fun c22 => ?_) (fun c22 => ?_)
    · skip
      obtain ⟨q, hq, rfl⟩ := isM_ex h6 c13
      have hm := ((rw.mo q hq).1).chg w x0 (by decide +kernel)
      refine s_aload_n 0 dX0_act_27 rfl rfl ?_
      refine s_getP dX0_act_28 fl_X0_17 (fo_1_0.at (wk_16 w)) (wp_16_0 w) ?_
      refine s_iload_n 1 dX0_act_31 rfl rfl ?_
      refine s_aald (j := q) (jj := 6) dX0_act_32 (wk_17 w) rfl (ixn (wn_17 w) (ix_nI (by omega) (by decide))) (show hP _ 17 q = hP h 17 q from rfl) ?_
      refine s_astore (ls' := [(4, _), (0, _), (1, _), (2, _), (3, _)]) dX0_act_33 (by decide) rfl ?_
      refine s_iload_n 2 dX0_act_35 rfl rfl ?_
      refine s_if_ne 48 dX0_act_36 (by decide) (fun c36 => ?_) (fun c36 => ?_)
      · skip
        refine s_iload_n 2 dX0_act_48 rfl rfl ?_
        refine s_iconst (v := 1) dX0_act_49 rfl ?_
        refine s_icmp_ne 62 dX0_act_50 (by decide) (fun c50 => ?_) (fun c50 => ?_)
        · skip
          refine s_aload dX0_act_62 rfl ?_
          refine s_iload_n 3 dX0_act_64 rfl rfl ?_
          refine v_tells hm tr0 (by decide) _ dX0_act_65 q1247 (by decide) (Nat.le_of_ble_eq_true rfl) ?_
          exact s_ireturn .int dX0_act_68 rfl rfl ⟨by rw [acL_p h6 hq c22, if_neg c36, if_neg c50], by rw [acL_p h6 hq c22, if_neg c36, if_neg c50]⟩
        · skip
          refine s_aload dX0_act_53 rfl ?_
          refine s_iload_n 3 dX0_act_55 rfl rfl ?_
          refine v_sighs hm tr0 (by decide) _ dX0_act_56 q1223 (by decide) (Nat.le_of_ble_eq_true rfl) ?_
          refine s_goto 68 dX0_act_59 (by decide) ?_
          exact s_ireturn .int dX0_act_68 rfl rfl ⟨by rw [acL_p h6 hq c22, if_neg c36, if_pos c50], by rw [acL_p h6 hq c22, if_neg c36, if_pos c50]⟩
      · skip
        refine s_aload dX0_act_39 rfl ?_
        refine s_iload_n 3 dX0_act_41 rfl rfl ?_
        refine v_stands hm tr0 (by decide) _ dX0_act_42 q1193 (by decide) (Nat.le_of_ble_eq_true rfl) ?_
        refine s_goto 68 dX0_act_45 (by decide) ?_
        exact s_ireturn .int dX0_act_68 rfl rfl ⟨by rw [acL_p h6 hq c22, if_pos c36], by rw [acL_p h6 hq c22, if_pos c36]⟩
    · skip
      refine s_iconst (v := 0) dX0_act_25 rfl ?_
      exact s_ireturn .int dX0_act_26 rfl rfl ⟨by unfold acL; rw [if_neg (fun y => by rw [c22] at y; exact absurd y.2 (by decide))], by unfold acL; rw [if_neg (fun y => by rw [c22] at y; exact absurd y.2 (by decide))]; rfl⟩
theorem moCa {k : Nat} (z : MK k) : Ca k "FuneralDebts$Mourner" ∨ okK k = true ∧ kname k = "FuneralDebts$Mourner" := z.cs (P := fun k => Ca k "FuneralDebts$Mourner" ∨ okK k = true ∧ kname k = "FuneralDebts$Mourner") (Or.inr ⟨rfl, rfl⟩) (Or.inl ⟨rfl, q1760⟩) (Or.inl ⟨rfl, q1761⟩) (Or.inl ⟨rfl, q1764⟩) (Or.inl ⟨rfl, q1763⟩) (Or.inl ⟨rfl, q1759⟩) (Or.inl ⟨rfl, q1762⟩)
/-- all six places of a row of mourners hold one, or none -/
def MA (h : AH) (ma : Nat) : Prop := ∀ i, i < 6 → hP h ma i = 0 ∨ MK (hK h (hP h ma i))
/-- the rows of the image: where from, where to, how long -/
def cpA (h : AH) (a b : Nat) (n : Nat) : AH := cpI h a 0 b 0 n
def imA (h : AH) : AH := cpA (cpA (cpA (cpA (cpA (cpA (cpA (cpP (tkH h 41 19) 17 0 45 0 6) 18 46 24) 33 47 5) 34 48 5) 35 49 8) 36 50 8) 37 51 8) 38 52 8
def imH (h : AH) : AH := sP (sI (sI (sI (imA h) 16 30 (hI h 16 16)) 16 31 (hI h 16 17)) 16 32 (hI h 16 18)) 16 33 (hP h 16 7)
def unA (h : AH) : AH := cpA (cpA (cpA (cpA (cpA (cpA (cpA (cpP (tkH h 19 41) 45 0 17 0 6) 46 18 24) 47 33 5) 48 34 5) 49 35 8) 50 36 8) 51 37 8) 52 38 8
def unH (h : AH) : AH := sP (sI (sI (sI (unA h) 16 16 (hI h 16 30)) 16 17 (hI h 16 31)) 16 18 (hI h 16 32)) 16 7 (hP h 16 33)
theorem c_image {h : AH} (w : WF h) (ma : MA h 17) : Con mX0_image 3 0 0 [.ref 16] h (retH (some (.int (hI h 19 3))) (imH h)) nox := by
  refine Con.of rfl rfl (Nat.le_of_ble_eq_true rfl) ?_
  refine s_aload_n 0 dX0_image_0 rfl rfl ?_
  refine s_getP dX0_image_1 fl_X0_87 (fo_1_21.at (wk_16 w)) (wp_16_21 w) ?_
  refine s_aload_n 0 dX0_image_4 rfl rfl ?_
  refine s_getP dX0_image_5 fl_X0_28 (fo_1_2.at (wk_16 w)) (wp_16_2 w) ?_
  refine s_callV (M2 := mX1_takes) dX0_image_8 q664 bX1_takes inX1_takes.2 q666 rfl (c_takes41_19 w) rfl rfl (rk (wk_41 w) rfl rfl) ⟨by decide, by decide, by decide⟩ (Nat.le_of_ble_eq_true rfl) (fun v1 h1 z1 => ?_) (fun _ _ z => z.elim)
  obtain ⟨rfl, rfl⟩ := z1
  obtain ⟨k1, e1⟩ : ∃ x, x = tkH h 41 19 := ⟨_, rfl⟩
  rw [← e1]
  have x1 : Chg [41, 42, 43, 44] h k1 := by rw [e1]; exact tk_chg h 41 19
  have w1 := w.chg x1
  have f1 : ∀ f, hI k1 16 f = hI h 16 f := fun f => x1.i (by decide) f
  have p1 : hP k1 16 7 = hP h 16 7 := x1.p 16 7
  have g1 : hI k1 19 3 = hI h 19 3 := by rw [e1]; exact (tk_chg h 41 19).i (by decide) 3
  refine s_aload_n 0 dX0_image_11 rfl rfl ?_
  refine s_getP dX0_image_12 fl_X0_17 (fo_1_0.at (wk_16 w1)) (wp_16_0 w1) ?_
  refine s_iconst (v := 0) dX0_image_15 rfl ?_
  refine s_aload_n 0 dX0_image_16 rfl rfl ?_
  refine s_getP dX0_image_17 fl_X0_90 (fo_1_22.at (wk_16 w1)) (wp_16_22 w1) ?_
  refine s_iconst (v := 0) dX0_image_20 rfl ?_
  refine s_bipush (v := 6) dX0_image_21 rfl ?_
  refine s_copyP (j := 6) (C := "FuneralDebts$Mourner") 0 0 6 dX0_image_23 q1184 (wk_17 w1) (wk_45 w1) rfl (by decide) rfl rfl rfl (by decide) (Nat.le_of_eq (wn_17 w1).symm) (Nat.le_of_eq (wn_45 w1).symm) (fun i hi hz => by rw [Nat.zero_add, x1.p] at hz ⊢; rw [x1.k]; exact moCa ((ma i hi).resolve_left hz)) (by decide) (Nat.le_of_ble_eq_true rfl) ?_
  obtain ⟨k2, e2⟩ : ∃ x, x = cpP k1 17 0 45 0 6 := ⟨_, rfl⟩
  rw [← e2]
  have w2 : WF k2 := by rw [e2]; exact WF.pC w1 (by decide +kernel)
  have f2 : ∀ f, hI k2 16 f = hI h 16 f := fun f => by rw [e2]; exact f1 f
  have p2 : hP k2 16 7 = hP h 16 7 := by rw [e2, hP_cpP, if_neg (by omega)]; exact p1
  have g2 : hI k2 19 3 = hI h 19 3 := by rw [e2]; exact g1
  refine s_aload_n 0 dX0_image_26 rfl rfl ?_
  refine s_getP dX0_image_27 fl_X0_21 (fo_1_1.at (wk_16 w2)) (wp_16_1 w2) ?_
  refine s_iconst (v := 0) dX0_image_30 rfl ?_
  refine s_aload_n 0 dX0_image_31 rfl rfl ?_
  refine s_getP dX0_image_32 fl_X0_93 (fo_1_23.at (wk_16 w2)) (wp_16_23 w2) ?_
  refine s_iconst (v := 0) dX0_image_35 rfl ?_
  refine s_bipush (v := 24) dX0_image_36 rfl ?_
  refine s_copyI (j := 0) 0 0 24 dX0_image_38 q1184 (wk_18 w2) (wk_46 w2) rfl rfl (by decide) rfl rfl rfl (by decide) (Nat.le_of_eq (wn_18 w2).symm) (Nat.le_of_eq (wn_46 w2).symm) (by decide) (Nat.le_of_ble_eq_true rfl) ?_
  obtain ⟨k3, e3⟩ : ∃ x, x = cpI k2 18 0 46 0 24 := ⟨_, rfl⟩
  rw [← e3]
  have w3 : WF k3 := by rw [e3]; exact w2
  have f3 : ∀ f, hI k3 16 f = hI h 16 f := fun f => by rw [e3, hI_cpI, if_neg (by omega)]; exact f2 f
  have p3 : hP k3 16 7 = hP h 16 7 := by rw [e3]; exact p2
  have g3 : hI k3 19 3 = hI h 19 3 := by rw [e3, hI_cpI, if_neg (by omega)]; exact g2
  refine s_aload_n 0 dX0_image_41 rfl rfl ?_
  refine s_getP dX0_image_42 fl_X0_60 (fo_1_10.at (wk_16 w3)) (wp_16_10 w3) ?_
  refine s_iconst (v := 0) dX0_image_45 rfl ?_
  refine s_aload_n 0 dX0_image_46 rfl rfl ?_
  refine s_getP dX0_image_47 fl_X0_96 (fo_1_24.at (wk_16 w3)) (wp_16_24 w3) ?_
  refine s_iconst (v := 0) dX0_image_50 rfl ?_
  refine s_iconst (v := 5) dX0_image_51 rfl ?_
  refine s_copyI (j := 0) 0 0 5 dX0_image_52 q1184 (wk_33 w3) (wk_47 w3) rfl rfl (by decide) rfl rfl rfl (by decide) (Nat.le_of_eq (wn_33 w3).symm) (Nat.le_of_eq (wn_47 w3).symm) (by decide) (Nat.le_of_ble_eq_true rfl) ?_
  obtain ⟨k4, e4⟩ : ∃ x, x = cpI k3 33 0 47 0 5 := ⟨_, rfl⟩
  rw [← e4]
  have w4 : WF k4 := by rw [e4]; exact w3
  have f4 : ∀ f, hI k4 16 f = hI h 16 f := fun f => by rw [e4, hI_cpI, if_neg (by omega)]; exact f3 f
  have p4 : hP k4 16 7 = hP h 16 7 := by rw [e4]; exact p3
  have g4 : hI k4 19 3 = hI h 19 3 := by rw [e4, hI_cpI, if_neg (by omega)]; exact g3
  refine s_aload_n 0 dX0_image_55 rfl rfl ?_
  refine s_getP dX0_image_56 fl_X0_63 (fo_1_11.at (wk_16 w4)) (wp_16_11 w4) ?_
  refine s_iconst (v := 0) dX0_image_59 rfl ?_
  refine s_aload_n 0 dX0_image_60 rfl rfl ?_
  refine s_getP dX0_image_61 fl_X0_99 (fo_1_25.at (wk_16 w4)) (wp_16_25 w4) ?_
  refine s_iconst (v := 0) dX0_image_64 rfl ?_
  refine s_iconst (v := 5) dX0_image_65 rfl ?_
  refine s_copyI (j := 0) 0 0 5 dX0_image_66 q1184 (wk_34 w4) (wk_48 w4) rfl rfl (by decide) rfl rfl rfl (by decide) (Nat.le_of_eq (wn_34 w4).symm) (Nat.le_of_eq (wn_48 w4).symm) (by decide) (Nat.le_of_ble_eq_true rfl) ?_
  obtain ⟨k5, e5⟩ : ∃ x, x = cpI k4 34 0 48 0 5 := ⟨_, rfl⟩
  rw [← e5]
  have w5 : WF k5 := by rw [e5]; exact w4
  have f5 : ∀ f, hI k5 16 f = hI h 16 f := fun f => by rw [e5, hI_cpI, if_neg (by omega)]; exact f4 f
  have p5 : hP k5 16 7 = hP h 16 7 := by rw [e5]; exact p4
  have g5 : hI k5 19 3 = hI h 19 3 := by rw [e5, hI_cpI, if_neg (by omega)]; exact g4
  refine s_aload_n 0 dX0_image_69 rfl rfl ?_
  refine s_getP dX0_image_70 fl_X0_66 (fo_1_12.at (wk_16 w5)) (wp_16_12 w5) ?_
  refine s_iconst (v := 0) dX0_image_73 rfl ?_
  refine s_aload_n 0 dX0_image_74 rfl rfl ?_
  refine s_getP dX0_image_75 fl_X0_102 (fo_1_26.at (wk_16 w5)) (wp_16_26 w5) ?_
  refine s_iconst (v := 0) dX0_image_78 rfl ?_
  refine s_bipush (v := 8) dX0_image_79 rfl ?_
  refine s_copyI (j := 0) 0 0 8 dX0_image_81 q1184 (wk_35 w5) (wk_49 w5) rfl rfl (by decide) rfl rfl rfl (by decide) (Nat.le_of_eq (wn_35 w5).symm) (Nat.le_of_eq (wn_49 w5).symm) (by decide) (Nat.le_of_ble_eq_true rfl) ?_
  obtain ⟨k6, e6⟩ : ∃ x, x = cpI k5 35 0 49 0 8 := ⟨_, rfl⟩
  rw [← e6]
  have w6 : WF k6 := by rw [e6]; exact w5
  have f6 : ∀ f, hI k6 16 f = hI h 16 f := fun f => by rw [e6, hI_cpI, if_neg (by omega)]; exact f5 f
  have p6 : hP k6 16 7 = hP h 16 7 := by rw [e6]; exact p5
  have g6 : hI k6 19 3 = hI h 19 3 := by rw [e6, hI_cpI, if_neg (by omega)]; exact g5
  refine s_aload_n 0 dX0_image_84 rfl rfl ?_
  refine s_getP dX0_image_85 fl_X0_69 (fo_1_13.at (wk_16 w6)) (wp_16_13 w6) ?_
  refine s_iconst (v := 0) dX0_image_88 rfl ?_
  refine s_aload_n 0 dX0_image_89 rfl rfl ?_
  refine s_getP dX0_image_90 fl_X0_105 (fo_1_27.at (wk_16 w6)) (wp_16_27 w6) ?_
  refine s_iconst (v := 0) dX0_image_93 rfl ?_
  refine s_bipush (v := 8) dX0_image_94 rfl ?_
  refine s_copyI (j := 0) 0 0 8 dX0_image_96 q1184 (wk_36 w6) (wk_50 w6) rfl rfl (by decide) rfl rfl rfl (by decide) (Nat.le_of_eq (wn_36 w6).symm) (Nat.le_of_eq (wn_50 w6).symm) (by decide) (Nat.le_of_ble_eq_true rfl) ?_
  obtain ⟨k7, e7⟩ : ∃ x, x = cpI k6 36 0 50 0 8 := ⟨_, rfl⟩
  rw [← e7]
  have w7 : WF k7 := by rw [e7]; exact w6
  have f7 : ∀ f, hI k7 16 f = hI h 16 f := fun f => by rw [e7, hI_cpI, if_neg (by omega)]; exact f6 f
  have p7 : hP k7 16 7 = hP h 16 7 := by rw [e7]; exact p6
  have g7 : hI k7 19 3 = hI h 19 3 := by rw [e7, hI_cpI, if_neg (by omega)]; exact g6
  refine s_aload_n 0 dX0_image_99 rfl rfl ?_
  refine s_getP dX0_image_100 fl_X0_72 (fo_1_14.at (wk_16 w7)) (wp_16_14 w7) ?_
  refine s_iconst (v := 0) dX0_image_103 rfl ?_
  refine s_aload_n 0 dX0_image_104 rfl rfl ?_
  refine s_getP dX0_image_105 fl_X0_108 (fo_1_28.at (wk_16 w7)) (wp_16_28 w7) ?_
  refine s_iconst (v := 0) dX0_image_108 rfl ?_
  refine s_bipush (v := 8) dX0_image_109 rfl ?_
  refine s_copyI (j := 0) 0 0 8 dX0_image_111 q1184 (wk_37 w7) (wk_51 w7) rfl rfl (by decide) rfl rfl rfl (by decide) (Nat.le_of_eq (wn_37 w7).symm) (Nat.le_of_eq (wn_51 w7).symm) (by decide) (Nat.le_of_ble_eq_true rfl) ?_
  obtain ⟨k8, e8⟩ : ∃ x, x = cpI k7 37 0 51 0 8 := ⟨_, rfl⟩
  rw [← e8]
  have w8 : WF k8 := by rw [e8]; exact w7
  have f8 : ∀ f, hI k8 16 f = hI h 16 f := fun f => by rw [e8, hI_cpI, if_neg (by omega)]; exact f7 f
  have p8 : hP k8 16 7 = hP h 16 7 := by rw [e8]; exact p7
  have g8 : hI k8 19 3 = hI h 19 3 := by rw [e8, hI_cpI, if_neg (by omega)]; exact g7
  refine s_aload_n 0 dX0_image_114 rfl rfl ?_
  refine s_getP dX0_image_115 fl_X0_75 (fo_1_15.at (wk_16 w8)) (wp_16_15 w8) ?_
  refine s_iconst (v := 0) dX0_image_118 rfl ?_
  refine s_aload_n 0 dX0_image_119 rfl rfl ?_
  refine s_getP dX0_image_120 fl_X0_111 (fo_1_29.at (wk_16 w8)) (wp_16_29 w8) ?_
  refine s_iconst (v := 0) dX0_image_123 rfl ?_
  refine s_bipush (v := 8) dX0_image_124 rfl ?_
  refine s_copyI (j := 0) 0 0 8 dX0_image_126 q1184 (wk_38 w8) (wk_52 w8) rfl rfl (by decide) rfl rfl rfl (by decide) (Nat.le_of_eq (wn_38 w8).symm) (Nat.le_of_eq (wn_52 w8).symm) (by decide) (Nat.le_of_ble_eq_true rfl) ?_
  obtain ⟨k9, e9⟩ : ∃ x, x = cpI k8 38 0 52 0 8 := ⟨_, rfl⟩
  rw [← e9]
  have w9 : WF k9 := by rw [e9]; exact w8
  have f9 : ∀ f, hI k9 16 f = hI h 16 f := fun f => by rw [e9, hI_cpI, if_neg (by omega)]; exact f8 f
  have p9 : hP k9 16 7 = hP h 16 7 := by rw [e9]; exact p8
  have g9 : hI k9 19 3 = hI h 19 3 := by rw [e9, hI_cpI, if_neg (by omega)]; exact g8
  refine s_aload_n 0 dX0_image_129 rfl rfl ?_
  refine s_aload_n 0 dX0_image_130 rfl rfl ?_
  refine s_getI dX0_image_131 fl_X0_313 (fo_1_16.at (wk_16 w9)) ?_
  rw [f9]
  refine s_putJ dX0_image_134 fl_X0_371 (fo_1_30.at (wk_16 w9)) (Nat.le_of_ble_eq_true rfl) (Or.inl (fn_at (wk_16 w9) rfl)) (ty_at (wk_16 w9) rfl) ?_
  refine s_aload_n 0 dX0_image_137 rfl rfl ?_
  refine s_aload_n 0 dX0_image_138 rfl rfl ?_
  refine s_getI dX0_image_139 fl_X0_330 (fo_1_17.at (wk_16 w9)) ?_
  rw [hI_sI_ne (by omega), f9]
  refine s_putJ dX0_image_142 fl_X0_374 (fo_1_31.at (wk_16 w9)) (Nat.le_of_ble_eq_true rfl) (Or.inl (fn_at (wk_16 w9) rfl)) (ty_at (wk_16 w9) rfl) ?_
  refine s_aload_n 0 dX0_image_145 rfl rfl ?_
  refine s_aload_n 0 dX0_image_146 rfl rfl ?_
  refine s_getI dX0_image_147 fl_X0_343 (fo_1_18.at (wk_16 w9)) ?_
  rw [hI_sI_ne (by omega), hI_sI_ne (by omega), f9]
  refine s_putJ dX0_image_150 fl_X0_377 (fo_1_32.at (wk_16 w9)) (Nat.le_of_ble_eq_true rfl) (Or.inl (fn_at (wk_16 w9) rfl)) (ty_at (wk_16 w9) rfl) ?_
  refine s_aload_n 0 dX0_image_153 rfl rfl ?_
  refine s_aload_n 0 dX0_image_154 rfl rfl ?_
  refine s_getP dX0_image_155 fl_X0_42 (fo_1_7.at (wk_16 w9)) p9 ?_
  refine s_putP dX0_image_158 fl_X0_380 (fo_1_33.at (wk_16 w9)) (Nat.le_of_ble_eq_true rfl) (Or.inl (fn_at (wk_16 w9) rfl)) ?_
  have wE : WF (sP (sI (sI (sI k9 16 30 (hI h 16 16)) 16 31 (hI h 16 17)) 16 32 (hI h 16 18)) 16 33 (hP h 16 7)) := WF.pP (h := (sI (sI (sI k9 16 30 (hI h 16 16)) 16 31 (hI h 16 17)) 16 32 (hI h 16 18))) w9 (by decide +kernel)
  refine s_aload_n 0 dX0_image_161 rfl rfl ?_
  refine s_getP dX0_image_162 fl_X0_28 (fo_1_2.at (wk_16 wE)) (wp_16_2 wE) ?_
  refine s_getI dX0_image_165 fl_X0_115 (fo_2_3.at (wk_19 wE)) ?_
  rw [show hI (sP (sI (sI (sI k9 16 30 (hI h 16 16)) 16 31 (hI h 16 17)) 16 32 (hI h 16 18)) 16 33 (hP h 16 7)) 19 3 = hI h 19 3 from (show hI (sI (sI (sI k9 16 30 (hI h 16 16)) 16 31 (hI h 16 17)) 16 32 (hI h 16 18)) 19 3 = hI h 19 3 from (hI_sI_ne (by omega)).trans ((hI_sI_ne (by omega)).trans ((hI_sI_ne (by omega)).trans g9)))]
  exact s_ireturn .int dX0_image_168 rfl rfl ⟨rfl, by rw [e9, e8, e7, e6, e5, e4, e3, e2, e1]; rfl⟩
theorem c_undo {h : AH} (w : WF h) (ma : MA h 45) : Con mX0_undo 3 0 0 [.ref 16] h (retH (some (.int (if hP h 16 33 = 0 then -3 else hI h 41 3))) (if hP h 16 33 = 0 then h else unH h)) nox := by
  refine Con.of rfl rfl (Nat.le_of_ble_eq_true rfl) ?_
  refine s_aload_n 0 dX0_undo_0 rfl rfl ?_
  refine s_getP dX0_undo_1 fl_X0_380 (fo_1_33.at (wk_16 w)) rfl ?_
  refine s_ifnonnull 10 dX0_undo_4 (by decide) (fun c4 => ?_) (fun c4 => ?_)
  · skip
    refine s_aload_n 0 dX0_undo_10 rfl rfl ?_
    refine s_getP dX0_undo_11 fl_X0_28 (fo_1_2.at (wk_16 w)) (wp_16_2 w) ?_
    refine s_aload_n 0 dX0_undo_14 rfl rfl ?_
    refine s_getP dX0_undo_15 fl_X0_87 (fo_1_21.at (wk_16 w)) (wp_16_21 w) ?_
    refine s_callV (M2 := mX1_takes) dX0_undo_18 q664 bX1_takes inX1_takes.2 q666 rfl (c_takes19_41 w) rfl rfl (rk (wk_19 w) rfl rfl) ⟨by decide, by decide, by decide⟩ (Nat.le_of_ble_eq_true rfl) (fun v1 h1 z1 => ?_) (fun _ _ z => z.elim)
    obtain ⟨rfl, rfl⟩ := z1
    obtain ⟨k1, e1⟩ : ∃ x, x = tkH h 19 41 := ⟨_, rfl⟩
    rw [← e1]
    have x1 : Chg [19, 20, 21, 22] h k1 := by rw [e1]; exact tk_chg h 19 41
    have w1 := w.chg x1
    have f1 : ∀ f, hI k1 16 f = hI h 16 f := fun f => x1.i (by decide) f
    have p1 : hP k1 16 33 = hP h 16 33 := x1.p 16 33
    have g1 : hI k1 19 3 = hI h 41 3 := by rw [e1]; unfold tkH; rw [hI_sI_ne (by omega), hI_sI_ne (by omega), hI_sI_ne (by omega), hI_sI]
    refine s_aload_n 0 dX0_undo_21 rfl rfl ?_
    refine s_getP dX0_undo_22 fl_X0_90 (fo_1_22.at (wk_16 w1)) (wp_16_22 w1) ?_
    refine s_iconst (v := 0) dX0_undo_25 rfl ?_
    refine s_aload_n 0 dX0_undo_26 rfl rfl ?_
    refine s_getP dX0_undo_27 fl_X0_17 (fo_1_0.at (wk_16 w1)) (wp_16_0 w1) ?_
    refine s_iconst (v := 0) dX0_undo_30 rfl ?_
    refine s_bipush (v := 6) dX0_undo_31 rfl ?_
    refine s_copyP (j := 6) (C := "FuneralDebts$Mourner") 0 0 6 dX0_undo_33 q1184 (wk_45 w1) (wk_17 w1) rfl (by decide) rfl rfl rfl (by decide) (Nat.le_of_eq (wn_45 w1).symm) (Nat.le_of_eq (wn_17 w1).symm) (fun i hi hz => by rw [Nat.zero_add, x1.p] at hz ⊢; rw [x1.k]; exact moCa ((ma i hi).resolve_left hz)) (by decide) (Nat.le_of_ble_eq_true rfl) ?_
    obtain ⟨k2, e2⟩ : ∃ x, x = cpP k1 45 0 17 0 6 := ⟨_, rfl⟩
    rw [← e2]
    have w2 : WF k2 := by rw [e2]; exact WF.pC w1 (by decide +kernel)
    have f2 : ∀ f, hI k2 16 f = hI h 16 f := fun f => by rw [e2]; exact f1 f
    have p2 : hP k2 16 33 = hP h 16 33 := by rw [e2, hP_cpP, if_neg (by omega)]; exact p1
    have g2 : hI k2 19 3 = hI h 41 3 := by rw [e2]; exact g1
    refine s_aload_n 0 dX0_undo_36 rfl rfl ?_
    refine s_getP dX0_undo_37 fl_X0_93 (fo_1_23.at (wk_16 w2)) (wp_16_23 w2) ?_
    refine s_iconst (v := 0) dX0_undo_40 rfl ?_
    refine s_aload_n 0 dX0_undo_41 rfl rfl ?_
    refine s_getP dX0_undo_42 fl_X0_21 (fo_1_1.at (wk_16 w2)) (wp_16_1 w2) ?_
    refine s_iconst (v := 0) dX0_undo_45 rfl ?_
    refine s_bipush (v := 24) dX0_undo_46 rfl ?_
    refine s_copyI (j := 0) 0 0 24 dX0_undo_48 q1184 (wk_46 w2) (wk_18 w2) rfl rfl (by decide) rfl rfl rfl (by decide) (Nat.le_of_eq (wn_46 w2).symm) (Nat.le_of_eq (wn_18 w2).symm) (by decide) (Nat.le_of_ble_eq_true rfl) ?_
    obtain ⟨k3, e3⟩ : ∃ x, x = cpI k2 46 0 18 0 24 := ⟨_, rfl⟩
    rw [← e3]
    have w3 : WF k3 := by rw [e3]; exact w2
    have f3 : ∀ f, hI k3 16 f = hI h 16 f := fun f => by rw [e3, hI_cpI, if_neg (by omega)]; exact f2 f
    have p3 : hP k3 16 33 = hP h 16 33 := by rw [e3]; exact p2
    have g3 : hI k3 19 3 = hI h 41 3 := by rw [e3, hI_cpI, if_neg (by omega)]; exact g2
    refine s_aload_n 0 dX0_undo_51 rfl rfl ?_
    refine s_getP dX0_undo_52 fl_X0_96 (fo_1_24.at (wk_16 w3)) (wp_16_24 w3) ?_
    refine s_iconst (v := 0) dX0_undo_55 rfl ?_
    refine s_aload_n 0 dX0_undo_56 rfl rfl ?_
    refine s_getP dX0_undo_57 fl_X0_60 (fo_1_10.at (wk_16 w3)) (wp_16_10 w3) ?_
    refine s_iconst (v := 0) dX0_undo_60 rfl ?_
    refine s_iconst (v := 5) dX0_undo_61 rfl ?_
    refine s_copyI (j := 0) 0 0 5 dX0_undo_62 q1184 (wk_47 w3) (wk_33 w3) rfl rfl (by decide) rfl rfl rfl (by decide) (Nat.le_of_eq (wn_47 w3).symm) (Nat.le_of_eq (wn_33 w3).symm) (by decide) (Nat.le_of_ble_eq_true rfl) ?_
    obtain ⟨k4, e4⟩ : ∃ x, x = cpI k3 47 0 33 0 5 := ⟨_, rfl⟩
    rw [← e4]
    have w4 : WF k4 := by rw [e4]; exact w3
    have f4 : ∀ f, hI k4 16 f = hI h 16 f := fun f => by rw [e4, hI_cpI, if_neg (by omega)]; exact f3 f
    have p4 : hP k4 16 33 = hP h 16 33 := by rw [e4]; exact p3
    have g4 : hI k4 19 3 = hI h 41 3 := by rw [e4, hI_cpI, if_neg (by omega)]; exact g3
    refine s_aload_n 0 dX0_undo_65 rfl rfl ?_
    refine s_getP dX0_undo_66 fl_X0_99 (fo_1_25.at (wk_16 w4)) (wp_16_25 w4) ?_
    refine s_iconst (v := 0) dX0_undo_69 rfl ?_
    refine s_aload_n 0 dX0_undo_70 rfl rfl ?_
    refine s_getP dX0_undo_71 fl_X0_63 (fo_1_11.at (wk_16 w4)) (wp_16_11 w4) ?_
    refine s_iconst (v := 0) dX0_undo_74 rfl ?_
    refine s_iconst (v := 5) dX0_undo_75 rfl ?_
    refine s_copyI (j := 0) 0 0 5 dX0_undo_76 q1184 (wk_48 w4) (wk_34 w4) rfl rfl (by decide) rfl rfl rfl (by decide) (Nat.le_of_eq (wn_48 w4).symm) (Nat.le_of_eq (wn_34 w4).symm) (by decide) (Nat.le_of_ble_eq_true rfl) ?_
    obtain ⟨k5, e5⟩ : ∃ x, x = cpI k4 48 0 34 0 5 := ⟨_, rfl⟩
    rw [← e5]
    have w5 : WF k5 := by rw [e5]; exact w4
    have f5 : ∀ f, hI k5 16 f = hI h 16 f := fun f => by rw [e5, hI_cpI, if_neg (by omega)]; exact f4 f
    have p5 : hP k5 16 33 = hP h 16 33 := by rw [e5]; exact p4
    have g5 : hI k5 19 3 = hI h 41 3 := by rw [e5, hI_cpI, if_neg (by omega)]; exact g4
    refine s_aload_n 0 dX0_undo_79 rfl rfl ?_
    refine s_getP dX0_undo_80 fl_X0_102 (fo_1_26.at (wk_16 w5)) (wp_16_26 w5) ?_
    refine s_iconst (v := 0) dX0_undo_83 rfl ?_
    refine s_aload_n 0 dX0_undo_84 rfl rfl ?_
    refine s_getP dX0_undo_85 fl_X0_66 (fo_1_12.at (wk_16 w5)) (wp_16_12 w5) ?_
    refine s_iconst (v := 0) dX0_undo_88 rfl ?_
    refine s_bipush (v := 8) dX0_undo_89 rfl ?_
    refine s_copyI (j := 0) 0 0 8 dX0_undo_91 q1184 (wk_49 w5) (wk_35 w5) rfl rfl (by decide) rfl rfl rfl (by decide) (Nat.le_of_eq (wn_49 w5).symm) (Nat.le_of_eq (wn_35 w5).symm) (by decide) (Nat.le_of_ble_eq_true rfl) ?_
    obtain ⟨k6, e6⟩ : ∃ x, x = cpI k5 49 0 35 0 8 := ⟨_, rfl⟩
    rw [← e6]
    have w6 : WF k6 := by rw [e6]; exact w5
    have f6 : ∀ f, hI k6 16 f = hI h 16 f := fun f => by rw [e6, hI_cpI, if_neg (by omega)]; exact f5 f
    have p6 : hP k6 16 33 = hP h 16 33 := by rw [e6]; exact p5
    have g6 : hI k6 19 3 = hI h 41 3 := by rw [e6, hI_cpI, if_neg (by omega)]; exact g5
    refine s_aload_n 0 dX0_undo_94 rfl rfl ?_
    refine s_getP dX0_undo_95 fl_X0_105 (fo_1_27.at (wk_16 w6)) (wp_16_27 w6) ?_
    refine s_iconst (v := 0) dX0_undo_98 rfl ?_
    refine s_aload_n 0 dX0_undo_99 rfl rfl ?_
    refine s_getP dX0_undo_100 fl_X0_69 (fo_1_13.at (wk_16 w6)) (wp_16_13 w6) ?_
    refine s_iconst (v := 0) dX0_undo_103 rfl ?_
    refine s_bipush (v := 8) dX0_undo_104 rfl ?_
    refine s_copyI (j := 0) 0 0 8 dX0_undo_106 q1184 (wk_50 w6) (wk_36 w6) rfl rfl (by decide) rfl rfl rfl (by decide) (Nat.le_of_eq (wn_50 w6).symm) (Nat.le_of_eq (wn_36 w6).symm) (by decide) (Nat.le_of_ble_eq_true rfl) ?_
    obtain ⟨k7, e7⟩ : ∃ x, x = cpI k6 50 0 36 0 8 := ⟨_, rfl⟩
    rw [← e7]
    have w7 : WF k7 := by rw [e7]; exact w6
    have f7 : ∀ f, hI k7 16 f = hI h 16 f := fun f => by rw [e7, hI_cpI, if_neg (by omega)]; exact f6 f
    have p7 : hP k7 16 33 = hP h 16 33 := by rw [e7]; exact p6
    have g7 : hI k7 19 3 = hI h 41 3 := by rw [e7, hI_cpI, if_neg (by omega)]; exact g6
    refine s_aload_n 0 dX0_undo_109 rfl rfl ?_
    refine s_getP dX0_undo_110 fl_X0_108 (fo_1_28.at (wk_16 w7)) (wp_16_28 w7) ?_
    refine s_iconst (v := 0) dX0_undo_113 rfl ?_
    refine s_aload_n 0 dX0_undo_114 rfl rfl ?_
    refine s_getP dX0_undo_115 fl_X0_72 (fo_1_14.at (wk_16 w7)) (wp_16_14 w7) ?_
    refine s_iconst (v := 0) dX0_undo_118 rfl ?_
    refine s_bipush (v := 8) dX0_undo_119 rfl ?_
    refine s_copyI (j := 0) 0 0 8 dX0_undo_121 q1184 (wk_51 w7) (wk_37 w7) rfl rfl (by decide) rfl rfl rfl (by decide) (Nat.le_of_eq (wn_51 w7).symm) (Nat.le_of_eq (wn_37 w7).symm) (by decide) (Nat.le_of_ble_eq_true rfl) ?_
    obtain ⟨k8, e8⟩ : ∃ x, x = cpI k7 51 0 37 0 8 := ⟨_, rfl⟩
    rw [← e8]
    have w8 : WF k8 := by rw [e8]; exact w7
    have f8 : ∀ f, hI k8 16 f = hI h 16 f := fun f => by rw [e8, hI_cpI, if_neg (by omega)]; exact f7 f
    have p8 : hP k8 16 33 = hP h 16 33 := by rw [e8]; exact p7
    have g8 : hI k8 19 3 = hI h 41 3 := by rw [e8, hI_cpI, if_neg (by omega)]; exact g7
    refine s_aload_n 0 dX0_undo_124 rfl rfl ?_
    refine s_getP dX0_undo_125 fl_X0_111 (fo_1_29.at (wk_16 w8)) (wp_16_29 w8) ?_
    refine s_iconst (v := 0) dX0_undo_128 rfl ?_
    refine s_aload_n 0 dX0_undo_129 rfl rfl ?_
    refine s_getP dX0_undo_130 fl_X0_75 (fo_1_15.at (wk_16 w8)) (wp_16_15 w8) ?_
    refine s_iconst (v := 0) dX0_undo_133 rfl ?_
    refine s_bipush (v := 8) dX0_undo_134 rfl ?_
    refine s_copyI (j := 0) 0 0 8 dX0_undo_136 q1184 (wk_52 w8) (wk_38 w8) rfl rfl (by decide) rfl rfl rfl (by decide) (Nat.le_of_eq (wn_52 w8).symm) (Nat.le_of_eq (wn_38 w8).symm) (by decide) (Nat.le_of_ble_eq_true rfl) ?_
    obtain ⟨k9, e9⟩ : ∃ x, x = cpI k8 52 0 38 0 8 := ⟨_, rfl⟩
    rw [← e9]
    have w9 : WF k9 := by rw [e9]; exact w8
    have f9 : ∀ f, hI k9 16 f = hI h 16 f := fun f => by rw [e9, hI_cpI, if_neg (by omega)]; exact f8 f
    have p9 : hP k9 16 33 = hP h 16 33 := by rw [e9]; exact p8
    have g9 : hI k9 19 3 = hI h 41 3 := by rw [e9, hI_cpI, if_neg (by omega)]; exact g8
    refine s_aload_n 0 dX0_undo_139 rfl rfl ?_
    refine s_aload_n 0 dX0_undo_140 rfl rfl ?_
    refine s_getI dX0_undo_141 fl_X0_371 (fo_1_30.at (wk_16 w9)) ?_
    rw [f9]
    refine s_putJ dX0_undo_144 fl_X0_313 (fo_1_16.at (wk_16 w9)) (Nat.le_of_ble_eq_true rfl) (Or.inl (fn_at (wk_16 w9) rfl)) (ty_at (wk_16 w9) rfl) ?_
    refine s_aload_n 0 dX0_undo_147 rfl rfl ?_
    refine s_aload_n 0 dX0_undo_148 rfl rfl ?_
    refine s_getI dX0_undo_149 fl_X0_374 (fo_1_31.at (wk_16 w9)) ?_
    rw [hI_sI_ne (by omega), f9]
    refine s_putJ dX0_undo_152 fl_X0_330 (fo_1_17.at (wk_16 w9)) (Nat.le_of_ble_eq_true rfl) (Or.inl (fn_at (wk_16 w9) rfl)) (ty_at (wk_16 w9) rfl) ?_
    refine s_aload_n 0 dX0_undo_155 rfl rfl ?_
    refine s_aload_n 0 dX0_undo_156 rfl rfl ?_
    refine s_getI dX0_undo_157 fl_X0_377 (fo_1_32.at (wk_16 w9)) ?_
    rw [hI_sI_ne (by omega), hI_sI_ne (by omega), f9]
    refine s_putJ dX0_undo_160 fl_X0_343 (fo_1_18.at (wk_16 w9)) (Nat.le_of_ble_eq_true rfl) (Or.inl (fn_at (wk_16 w9) rfl)) (ty_at (wk_16 w9) rfl) ?_
    refine s_aload_n 0 dX0_undo_163 rfl rfl ?_
    refine s_aload_n 0 dX0_undo_164 rfl rfl ?_
    refine s_getP dX0_undo_165 fl_X0_380 (fo_1_33.at (wk_16 w9)) p9 ?_
    refine s_putP dX0_undo_168 fl_X0_42 (fo_1_7.at (wk_16 w9)) (Nat.le_of_ble_eq_true rfl) (Or.inl (fn_at (wk_16 w9) rfl)) ?_
    have wE : WF (sP (sI (sI (sI k9 16 16 (hI h 16 30)) 16 17 (hI h 16 31)) 16 18 (hI h 16 32)) 16 7 (hP h 16 33)) := WF.pP (h := (sI (sI (sI k9 16 16 (hI h 16 30)) 16 17 (hI h 16 31)) 16 18 (hI h 16 32))) w9 (by decide +kernel)
    refine s_aload_n 0 dX0_undo_171 rfl rfl ?_
    refine s_getP dX0_undo_172 fl_X0_28 (fo_1_2.at (wk_16 wE)) (wp_16_2 wE) ?_
    refine s_getI dX0_undo_175 fl_X0_115 (fo_2_3.at (wk_19 wE)) ?_
    rw [show hI (sP (sI (sI (sI k9 16 16 (hI h 16 30)) 16 17 (hI h 16 31)) 16 18 (hI h 16 32)) 16 7 (hP h 16 33)) 19 3 = hI h 41 3 from (show hI (sI (sI (sI k9 16 16 (hI h 16 30)) 16 17 (hI h 16 31)) 16 18 (hI h 16 32)) 19 3 = hI h 41 3 from (hI_sI_ne (by omega)).trans ((hI_sI_ne (by omega)).trans ((hI_sI_ne (by omega)).trans g9)))]
    exact s_ireturn .int dX0_undo_178 rfl rfl ⟨by rw [if_neg c4], by rw [if_neg c4, e9, e8, e7, e6, e5, e4, e3, e2, e1]; rfl⟩
  · skip
    refine s_bipush (v := -3) dX0_undo_7 rfl ?_
    exact s_ireturn .int dX0_undo_9 rfl rfl ⟨by rw [if_pos c4], by rw [if_pos c4]⟩
