/-! queries of the component -/
set_option maxRecDepth 100000
theorem rg {x y : Int32} {P : AH → Prop} {h : AH} (e : y = x) (hp : P h) : retG (some (.int x)) P (some (.int y)) h := by subst e; exact ⟨rfl, hp⟩
theorem rgL {x y : Int64} {P : AH → Prop} {h : AH} (e : y = x) (hp : P h) : retG (some (.long x)) P (some (.long y)) h := by subst e; exact ⟨rfl, hp⟩
theorem nI_ofI {x : Int32} (h0 : 0 ≤ x.toInt) : x = nI x.toInt.toNat := by
  apply Int32.toInt_inj.mp
  have h2 : x.toInt < 2 ^ 31 := Int32.toInt_lt x
  rw [nI_toInt (by omega)]
  omega
theorem sw_n {x : Int32} {n : Nat} (hx : ∀ k, k ≤ n → ¬ x = nI k) : x.toInt < (0 : Int) ∨ (n : Int) < x.toInt := by
  by_cases h0 : x.toInt < 0
  · exact Or.inl h0
  · by_cases h1 : (n : Int) < x.toInt
    · exact Or.inr h1
    · exact absurd (nI_ofI (by omega)) (hx _ (by omega))
def isM (m : Nat) (x : Int32) : Bool := inB x 0 (nI m - 1)
theorem inB_nI {x : Int32} {n : Nat} (hn : n < 2 ^ 31) (hx : inB x 0 (nI n) = true) : ∃ p, p ≤ n ∧ x = nI p := by
  have h1 := of_decide_eq_true hx
  have h2 : (0 : Int) ≤ x.toInt := Int32.le_iff_toInt_le.mp h1.1
  have h3 : x.toInt ≤ (nI n).toInt := Int32.le_iff_toInt_le.mp h1.2
  rw [nI_toInt hn] at h3
  exact ⟨x.toInt.toNat, by omega, nI_ofI h2⟩
theorem nI_inB {p n : Nat} (hn : n < 2 ^ 31) (hp : p ≤ n) : inB (nI p) 0 (nI n) = true := by
  refine decide_eq_true ⟨?_, nI_le hp hn⟩
  exact nI_le (a := 0) (Nat.zero_le _) (by omega)
theorem isM_ex {m : Nat} (h6 : m ≤ 6) {x : Int32} (hx : isM m x = true) : ∃ p, p < m ∧ x = nI p := by
  unfold isM at hx
  rcases Nat.eq_zero_or_pos m with rfl | h0
  · have h1 := of_decide_eq_true hx
    have h2 : (0 : Int) ≤ x.toInt := Int32.le_iff_toInt_le.mp h1.1
    have h3 : x.toInt ≤ (nI 0 - 1).toInt := Int32.le_iff_toInt_le.mp h1.2
    have : (nI 0 - 1).toInt = -1 := rfl
    omega
  · rw [show nI m - 1 = nI (m - 1) from pk_sub (b := 1) (by omega)] at hx
    obtain ⟨p, h1, h2⟩ := inB_nI (by omega) hx
    exact ⟨p, by omega, h2⟩
theorem isM_p {m p : Nat} (h6 : m ≤ 6) (hp : p < m) : isM m (nI p) = true := by
  unfold isM
  rw [show nI m - 1 = nI (m - 1) from pk_sub (b := 1) (by omega)]
  exact nI_inB (by omega) (by omega)
theorem sub_k {x : Int32} {k q : Nat} (h : x - nI k = nI q) : x = nI (q + k) := by
  rw [← nI_pl, ← h]
  exact (Int32.sub_add_cancel x (nI k)).symm
theorem c_isM {h : AH} (w : WF h) {m : Nat} (hm : hI h 19 3 = nI m) (x : Int32) : Con mX0_isMourner 1 0 0 [.ref 16, .int x] h (retV (.int (b2i (isM m x))) h) nox := by
  refine Con.of rfl rfl (Nat.le_of_ble_eq_true rfl) ?_
  refine s_iload_n 1 dX0_isMourner_0 rfl rfl ?_
  refine s_iconst (v := 0) dX0_isMourner_1 rfl ?_
  refine s_aload_n 0 dX0_isMourner_2 rfl rfl ?_
  refine s_getP dX0_isMourner_3 fl_X0_28 (fo_1_2.at (wk_16 w)) (wp_16_2 w) ?_
  refine s_getI dX0_isMourner_6 fl_X0_115 (fo_2_3.at (wk_19 w)) ?_
  rw [hm]
  refine s_iconst (v := 1) dX0_isMourner_9 rfl ?_
  refine s_isub dX0_isMourner_10 ?_
  refine s_callS_p (M2 := mX0_in) dX0_isMourner_11 q373 stX0_in rfl (c_in _ _ _ _) rfl rfl ⟨by decide, by decide, by decide⟩ (Nat.le_of_ble_eq_true rfl) ?_
  exact s_ireturn .boolean dX0_isMourner_14 rfl (nb2i _) ⟨rfl, rfl⟩
def onE (pr : Pr) (m : Nat) (e : St) (n what : Int32) : Int32 := if isM m (what - 10) = true ∨ isM m (what - 20) = true then (if inB n 0 20 = true then (if what < 20 then dayN pr m e n.toNatClampNeg (10 * (what - 10).toNatClampNeg + 3) else dayN pr m e n.toNatClampNeg (10 * (what - 20).toNatClampNeg + 5)) else -2) else -1
theorem c_on {h : AH} {m : Nat} {e : St} {pr : Pr} (rw : RW h 19 m e pr) (n what : Int32) : Con mX0_on 33 0 0 [.ref 16, .int n, .int what] h (retG (some (.int (onE pr m e n what))) (fun h' => Chg S23 h h')) nox := by
  have w := rw.w
  have tm := rw.tm
  have h6 := rw.m6
  have hmm := rw.tr.1
  refine Con.of rfl rfl (Nat.le_of_ble_eq_true rfl) ?_
  refine s_aload_n 0 dX0_on_0 rfl rfl ?_
  refine s_iload_n 2 dX0_on_1 rfl rfl ?_
  refine s_bipush (v := 10) dX0_on_2 rfl ?_
  refine s_isub dX0_on_4 ?_
  refine s_callV_p (M2 := mX0_isMourner) dX0_on_5 q656 bX0_isMourner inX0_isMourner.2 qs13 rfl (c_isM rw.w hmm _) rfl rfl (rk (wk_16 w) rfl rfl) ⟨by decide, by decide, by decide⟩ (Nat.le_of_ble_eq_true rfl) ?_
  refine s_ifne_b 24 dX0_on_8 (by decide) (fun c8 => ?_) (fun c8 => ?_)
  · skip
    refine s_iload_n 1 dX0_on_24 rfl rfl ?_
    refine s_callS_p (M2 := mX0_isOn) dX0_on_25 q486 stX0_isOn rfl (c_isOn _ _) rfl rfl ⟨by decide, by decide, by decide⟩ (Nat.le_of_ble_eq_true rfl) ?_
    refine s_ifne_b 34 dX0_on_28 (by decide) (fun c28 => ?_) (fun c28 => ?_)
    · skip
      refine s_aload_n 0 dX0_on_34 rfl rfl ?_
      refine s_iload_n 1 dX0_on_35 rfl rfl ?_
      obtain ⟨k, hk, rfl⟩ := inB_nI (n := 20) (by decide) c28
      have hnc : (nI k).toNatClampNeg = k := nI_clamp (by omega)
      refine s_callV (M2 := mX0_tries) dX0_on_36 q660 bX0_tries inX0_tries.2 qs14 rfl (c_tries rw k hk) rfl rfl (rk (wk_16 w) rfl rfl) ⟨by decide, by decide, by decide⟩ (Nat.le_of_ble_eq_true rfl) (fun v1 h1 z1 => ?_) (fun _ _ z => z.elim)
      obtain ⟨rfl, x1, rw1⟩ := z1
      obtain ⟨q, hq, hqe⟩ := isM_ex h6 c8
      have hw := sub_k (k := 10) hqe
      have hqc : (what - 10).toNatClampNeg = q := by rw [hqe]; exact nI_clamp (by omega)
      refine s_iload_n 2 dX0_on_39 rfl rfl ?_
      refine s_bipush (v := 20) dX0_on_40 rfl ?_
      refine s_icmp_ge 60 dX0_on_42 (by decide) (fun c42 => ?_) (fun c42 => ?_)
      · exact absurd (by rw [hw]; exact nI_lt (b := 20) (by omega) (by decide)) (Int32.not_lt.mpr c42)
      · skip
        refine s_aload_n 0 dX0_on_45 rfl rfl ?_
        refine s_getP dX0_on_46 fl_X0_32 (fo_1_3.at (wk_16 rw1.w)) (wp_16_3 rw1.w) ?_
        refine s_getP dX0_on_49 fl_X0_153 (fo_2_1.at (wk_23 rw1.w)) (wp_23_1 rw1.w) ?_
        refine s_iload_n 2 dX0_on_52 rfl rfl ?_
        refine s_bipush (v := 10) dX0_on_53 rfl ?_
        refine s_isub dX0_on_55 ?_
        rw [hqe]
        refine s_bald (j := q) dX0_on_56 (wk_25 rw1.w) (ixn (wn_25 rw1.w) (ix_nI (by omega) (by decide))) ?_
        rw [(rw1.tr.2.2.1 q hq).2.1, ← (rw1.tr.2.2.1 q hq).2.2.1]
        refine s_goto 72 dX0_on_57 (by decide) ?_
        exact s_ireturn .int dX0_on_72 rfl rfl (rg (by unfold onE; rw [if_pos (Or.inl c8), if_pos c28, if_pos (Int32.not_le.mp c42), hqc, hnc]) x1)
    · skip
      refine s_bipush (v := -2) dX0_on_31 rfl ?_
      exact s_ireturn .int dX0_on_33 rfl rfl (rg (by unfold onE; rw [if_pos (Or.inl c8), if_neg (by rw [c28]; decide)]) Chg.refl)
  · skip
    refine s_aload_n 0 dX0_on_11 rfl rfl ?_
    refine s_iload_n 2 dX0_on_12 rfl rfl ?_
    refine s_bipush (v := 20) dX0_on_13 rfl ?_
    refine s_isub dX0_on_15 ?_
    refine s_callV_p (M2 := mX0_isMourner) dX0_on_16 q656 bX0_isMourner inX0_isMourner.2 qs13 rfl (c_isM rw.w hmm _) rfl rfl (rk (wk_16 w) rfl rfl) ⟨by decide, by decide, by decide⟩ (Nat.le_of_ble_eq_true rfl) ?_
    refine s_ifne_b 24 dX0_on_19 (by decide) (fun c19 => ?_) (fun c19 => ?_)
    · skip
      refine s_iload_n 1 dX0_on_24 rfl rfl ?_
      refine s_callS_p (M2 := mX0_isOn) dX0_on_25 q486 stX0_isOn rfl (c_isOn _ _) rfl rfl ⟨by decide, by decide, by decide⟩ (Nat.le_of_ble_eq_true rfl) ?_
      refine s_ifne_b 34 dX0_on_28 (by decide) (fun c28 => ?_) (fun c28 => ?_)
      · skip
        refine s_aload_n 0 dX0_on_34 rfl rfl ?_
        refine s_iload_n 1 dX0_on_35 rfl rfl ?_
        obtain ⟨k, hk, rfl⟩ := inB_nI (n := 20) (by decide) c28
        have hnc : (nI k).toNatClampNeg = k := nI_clamp (by omega)
        refine s_callV (M2 := mX0_tries) dX0_on_36 q660 bX0_tries inX0_tries.2 qs14 rfl (c_tries rw k hk) rfl rfl (rk (wk_16 w) rfl rfl) ⟨by decide, by decide, by decide⟩ (Nat.le_of_ble_eq_true rfl) (fun v1 h1 z1 => ?_) (fun _ _ z => z.elim)
        obtain ⟨rfl, x1, rw1⟩ := z1
        obtain ⟨q, hq, hqe⟩ := isM_ex h6 c19
        have hw := sub_k (k := 20) hqe
        have hqc : (what - 20).toNatClampNeg = q := by rw [hqe]; exact nI_clamp (by omega)
        refine s_iload_n 2 dX0_on_39 rfl rfl ?_
        refine s_bipush (v := 20) dX0_on_40 rfl ?_
        refine s_icmp_ge 60 dX0_on_42 (by decide) (fun c42 => ?_) (fun c42 => ?_)
        · skip
          refine s_aload_n 0 dX0_on_60 rfl rfl ?_
          refine s_getP dX0_on_61 fl_X0_32 (fo_1_3.at (wk_16 rw1.w)) (wp_16_3 rw1.w) ?_
          refine s_getP dX0_on_64 fl_X0_156 (fo_2_2.at (wk_23 rw1.w)) (wp_23_2 rw1.w) ?_
          refine s_iload_n 2 dX0_on_67 rfl rfl ?_
          refine s_bipush (v := 20) dX0_on_68 rfl ?_
          refine s_isub dX0_on_70 ?_
          rw [hqe]
          refine s_iald (j := q) dX0_on_71 (wk_26 rw1.w) (ixn (wn_26 rw1.w) (ix_nI (by omega) (by decide))) ?_
          rw [rw1.tr.pd hq]
          exact s_ireturn .int dX0_on_72 rfl rfl (rg (by unfold onE; rw [if_pos (Or.inr c19), if_pos c28, if_neg (Int32.not_lt.mpr c42), hqc, hnc]) x1)
        · exact absurd (nI_le (a := 20) (b := q + 20) (by omega) (by omega)) (by rw [← hw]; exact c42)
      · skip
        refine s_bipush (v := -2) dX0_on_31 rfl ?_
        exact s_ireturn .int dX0_on_33 rfl rfl (rg (by unfold onE; rw [if_pos (Or.inr c19), if_neg (by rw [c28]; decide)]) Chg.refl)
    · skip
      refine s_iconst (v := -1) dX0_on_22 rfl ?_
      exact s_ireturn .int dX0_on_23 rfl rfl (rg (by unfold onE; rw [if_neg (by rw [c8, c19]; decide)]) Chg.refl)
/-- the first of some days on which none moves -/
def stF (pr : Pr) (m : Nat) (e : St) : Nat → Nat → Int32
  | 0, _ => -5
  | k + 1, n => if (dayE pr m (dayN pr m e n)).2 = true then stF pr m e k (n + 1) else nI n
def stE (pr : Pr) (m : Nat) (e : St) : Int32 := stF pr m e 21 0
theorem nI_gt {p n : Nat} (hn : p < 2 ^ 31 ∧ n < 2 ^ 31) (c : nI n < nI p) : n < p := by
  rw [Int32.lt_iff_toInt_lt, nI_toInt hn.1, nI_toInt hn.2] at c
  omega
theorem nI_ngt {p n : Nat} (hn : p < 2 ^ 31 ∧ n < 2 ^ 31) (c : ¬ nI n < nI p) : p ≤ n := by
  rw [Int32.lt_iff_toInt_lt, nI_toInt hn.1, nI_toInt hn.2] at c
  omega
theorem c_still {h : AH} {m : Nat} {e : St} {pr : Pr} (rw : RW h 19 m e pr) : Con mX0_still 33 0 0 [.ref 16] h (retG (some (.int (stE pr m e))) (fun h' => Chg S23 h h')) nox := by
  have w := rw.w
  have tm := rw.tm
  have h6 := rw.m6
  have hmm := rw.tr.1
  refine Con.of rfl rfl (Nat.le_of_ble_eq_true rfl) ?_
  refine s_aload_n 0 dX0_still_0 rfl rfl ?_
  refine s_iconst (v := 0) dX0_still_1 rfl ?_
  refine s_callV (M2 := mX0_tries) dX0_still_2 q660 bX0_tries inX0_tries.2 qs14 rfl (c_tries rw 0 (by decide)) rfl rfl (rk (wk_16 w) rfl rfl) ⟨by decide, by decide, by decide⟩ (Nat.le_of_ble_eq_true rfl) (fun v1 h1 z1 => ?_) (fun _ _ z => z.elim)
  obtain ⟨rfl, x0, rw0⟩ := z1
  refine s_iconst (v := 0) dX0_still_5 rfl ?_
  refine s_istore_n (ls' := [(1, _), (0, _)]) 1 dX0_still_6 rfl (by decide) rfl ?_
  have L7 : ∀ p : Nat, p ≤ 21 → ∀ h2 : AH, Chg S23 h h2 → RW h2 23 m (dayN pr m e p) pr → stE pr m e = stF pr m e (21 - p) p → AW mX0_still 33 (retG (some (.int (stE pr m e))) (fun h' => Chg S23 h h')) nox 0 0 7 [(1, .int (nI p)), (0, .ref 16)] [] h2 := by
    refine for_up (fun p hpp ih => ?_)
    intro h2 x1 rw1 hst
    have w := rw1.w
    refine s_iload_n 1 dX0_still_7 rfl rfl ?_
    refine s_bipush (v := 20) dX0_still_8 rfl ?_
    refine s_icmp_gt 32 dX0_still_10 (by decide) (fun c10 => ?_) (fun c10 => ?_)
    · skip
      have hge : 20 < p := nI_gt (n := 20) (by omega) c10
      obtain rfl : p = 21 := by omega
      refine s_bipush (v := -5) dX0_still_32 rfl ?_
      exact s_ireturn .int dX0_still_34 rfl rfl (rg (by rw [hst]; rfl) x1)
    · skip
      have hlt : p < 21 := by have := nI_ngt (n := 20) (by omega) c10; omega
      refine s_aload_n 0 dX0_still_13 rfl rfl ?_
      refine s_aload_n 0 dX0_still_14 rfl rfl ?_
      refine s_getP dX0_still_15 fl_X0_32 (fo_1_3.at (wk_16 w)) (wp_16_3 w) ?_
      refine s_callV (M2 := mX0_goes) dX0_still_18 q489 bX0_goes inX0_goes.2 qs1 rfl (c_goes rw1) rfl rfl (rk (wk_16 w) rfl rfl) ⟨by decide, by decide, by decide⟩ (Nat.le_of_ble_eq_true rfl) (fun v2 h3 z2 => ?_) (fun _ _ z => z.elim)
      obtain ⟨rfl, x2, rw2⟩ := z2
      refine s_ifne_b 26 dX0_still_21 (by decide) (fun c21 => ?_) (fun c21 => ?_)
      · skip
        refine s_iinc (v := nI (p + 1)) (ls' := [(1, _), (0, _)]) dX0_still_26 rfl (nI_succ p).symm (by decide) rfl ?_
        refine s_goto 7 dX0_still_29 (by decide) ?_
        exact AW.lc (ih hlt _ (x1.trans (x2.mono (by decide))) rw2 (by rw [hst, show 21 - p = (21 - (p + 1)) + 1 by omega]; exact if_pos c21)) ⟨rfl, rfl, trivial⟩
      · skip
        refine s_iload_n 1 dX0_still_24 rfl rfl ?_
        exact s_ireturn .int dX0_still_25 rfl rfl (rg (by rw [hst, show 21 - p = (21 - (p + 1)) + 1 by omega]; exact (if_neg (by rw [c21]; decide)).symm) (x1.trans (x2.mono (by decide))))
  exact AW.lc (L7 0 (Nat.zero_le _) _ x0 rw0 rfl) ⟨rfl, rfl, trivial⟩
/-- whom a move makes better off -/
def gnE (pr : Pr) (m : Nat) (e : St) : Nat → Int32
  | 0 => 0
  | p + 1 => if hrE e p = true ∧ woE (rateE pr e) e m p (yE e p) < woE (rateE pr e) (mvE (rateE pr e) m e m).1 m p (yE (mvE (rateE pr e) m e m).1 p) then gnE pr m e p ||| ((1 : Int32) <<< (nI p &&& 31)) else gnE pr m e p
theorem gnE_0 {pr : Pr} {m : Nat} {e : St} {p : Nat} (c : ¬ (hrE e p = true ∧ woE (rateE pr e) e m p (yE e p) < woE (rateE pr e) (mvE (rateE pr e) m e m).1 m p (yE (mvE (rateE pr e) m e m).1 p))) : gnE pr m e (p + 1) = gnE pr m e p := if_neg c
theorem gnE_1 {pr : Pr} {m : Nat} {e : St} {p : Nat} (c : hrE e p = true ∧ woE (rateE pr e) e m p (yE e p) < woE (rateE pr e) (mvE (rateE pr e) m e m).1 m p (yE (mvE (rateE pr e) m e m).1 p)) : gnE pr m e (p + 1) = gnE pr m e p ||| ((1 : Int32) <<< (nI p &&& 31)) := if_pos c
theorem c_gains {h : AH} {m : Nat} {e : St} {pr : Pr} (rw : RW h 19 m e pr) : Con mX0_gains 33 0 0 [.ref 16] h (retG (some (.int (gnE pr m e m))) (fun h' => Chg S23 h h')) nox := by
  have w := rw.w
  have tm := rw.tm
  have h6 := rw.m6
  have hmm := rw.tr.1
  refine Con.of rfl rfl (Nat.le_of_ble_eq_true rfl) ?_
  refine s_aload_n 0 dX0_gains_0 rfl rfl ?_
  refine s_iconst (v := 0) dX0_gains_1 rfl ?_
  refine s_callV (M2 := mX0_tries) dX0_gains_2 q660 bX0_tries inX0_tries.2 qs14 rfl (c_tries rw 0 (by decide)) rfl rfl (rk (wk_16 w) rfl rfl) ⟨by decide, by decide, by decide⟩ (Nat.le_of_ble_eq_true rfl) (fun v1 h1 z1 => ?_) (fun _ _ z => z.elim)
  obtain ⟨rfl, x0, rw0⟩ := z1
  refine s_aload_n 0 dX0_gains_5 rfl rfl ?_
  refine s_aload_n 0 dX0_gains_6 rfl rfl ?_
  refine s_getP dX0_gains_7 fl_X0_32 (fo_1_3.at (wk_16 rw0.w)) (wp_16_3 rw0.w) ?_
  refine s_callV (M2 := mX0_doMove) dX0_gains_10 q493 bX0_doMove inX0_doMove.2 qs2 rfl (c_doMove rw0) rfl rfl (rk (wk_16 rw0.w) rfl rfl) ⟨by decide, by decide, by decide⟩ (Nat.le_of_ble_eq_true rfl) (fun v2 h2 z2 => ?_) (fun _ _ z => z.elim)
  obtain ⟨rfl, x2, rw2, r2⟩ := z2
  change RW h2 23 m (mvE (rateE pr e) m e m).1 pr at rw2
  change RT h2 m (rateE pr e) at r2
  have rw3 := rw.keep19 (x0.trans (x2.mono (by decide)))
  have hmm3 := rw3.tr.1
  have tm2 := rw2.tm
  have tm3 := rw3.tm
  refine s_pop dX0_gains_13 rfl ?_
  refine s_iconst (v := 0) dX0_gains_14 rfl ?_
  refine s_istore_n (ls' := [(1, _), (0, _)]) 1 dX0_gains_15 rfl (by decide) rfl ?_
  refine s_iconst (v := 0) dX0_gains_16 rfl ?_
  refine s_istore_n (ls' := [(2, _), (1, _), (0, _)]) 2 dX0_gains_17 rfl (by decide) rfl ?_
  have L18 : ∀ p : Nat, p ≤ m → AW mX0_gains 33 (retG (some (.int (gnE pr m e m))) (fun h' => Chg S23 h h')) nox 0 0 18 [(2, .int (nI p)), (1, .int (gnE pr m e p)), (0, .ref 16)] [] h2 := by
    refine for_up (fun p hpp ih => ?_)
    refine s_iload_n 2 dX0_gains_18 rfl rfl ?_
    refine s_aload_n 0 dX0_gains_19 rfl rfl ?_
    refine s_getP dX0_gains_20 fl_X0_28 (fo_1_2.at (wk_16 rw2.w)) (wp_16_2 rw2.w) ?_
    refine s_getI dX0_gains_23 fl_X0_115 (fo_2_3.at (wk_19 rw2.w)) ?_
    refine s_icmp_ge 91 dX0_gains_26 (by decide) (fun c26 => ?_) (fun c26 => ?_)
    · skip
      have hge := le_ge hmm3 (by omega) (by omega) c26
      obtain rfl : p = m := by omega
      refine s_iload_n 1 dX0_gains_91 rfl rfl ?_
      exact s_ireturn .int dX0_gains_92 rfl rfl (rg rfl (x0.trans (x2.mono (by decide))))
    · skip
      have hlt := nle_lt hmm3 (by omega) (by omega) c26
      refine s_aload_n 0 dX0_gains_29 rfl rfl ?_
      refine s_getP dX0_gains_30 fl_X0_28 (fo_1_2.at (wk_16 rw2.w)) (wp_16_2 rw2.w) ?_
      refine s_iload_n 2 dX0_gains_33 rfl rfl ?_
      refine s_callV_p (M2 := mX1_isAway) dX0_gains_34 q604 bX1_isAway inX1_isAway.2 q606 rfl (c_isAway _ _ _ (wk_19 rw2.w)) rfl rfl (rk (wk_19 rw2.w) rfl rfl) ⟨by decide, by decide, by decide⟩ (Nat.le_of_ble_eq_true rfl) ?_
      have hgo := (rw3.tr.2.2.1 p hlt).2.2.2.2.2
      change bs (hI h2 19 4) p = _ at hgo
      refine s_ifne_b 85 dX0_gains_37 (by decide) (fun c37 => ?_) (fun c37 => ?_)
      · skip
        have hng : hrE e p = false := by have y := hgo; rw [show bs (hI h2 19 4) p = true from c37] at y; simpa using y
        refine s_iinc (v := nI (p + 1)) (ls' := [(2, _), (1, _), (0, _)]) dX0_gains_85 rfl (nI_succ p).symm (by decide) rfl ?_
        refine s_goto 18 dX0_gains_88 (by decide) ?_
        exact AW.lc (ih hlt ) ⟨rfl, (congrArg (fun x => some (Value.int x)) (gnE_0 (fun y => by rw [hng] at y; exact absurd y.1 (by decide))).symm), rfl, trivial⟩
      · skip
        have hyg : hrE e p = true := by have y := hgo; rw [show bs (hI h2 19 4) p = false from c37] at y; simpa using y
        refine s_aload_n 0 dX0_gains_40 rfl rfl ?_
        refine s_aload_n 0 dX0_gains_41 rfl rfl ?_
        refine s_getP dX0_gains_42 fl_X0_32 (fo_1_3.at (wk_16 rw2.w)) (wp_16_3 rw2.w) ?_
        refine s_iload_n 2 dX0_gains_45 rfl rfl ?_
        refine s_aload_n 0 dX0_gains_46 rfl rfl ?_
        refine s_getP dX0_gains_47 fl_X0_32 (fo_1_3.at (wk_16 rw2.w)) (wp_16_3 rw2.w) ?_
        refine s_getP dX0_gains_50 fl_X0_153 (fo_2_1.at (wk_23 rw2.w)) (wp_23_1 rw2.w) ?_
        refine s_iload_n 2 dX0_gains_53 rfl rfl ?_
        refine s_bald (j := p) dX0_gains_54 (wk_25 rw2.w) (ixn (wn_25 rw2.w) (ix_nI (by omega) (by decide))) ?_
        rw [show hI h2 25 p = nI (yE (mvE (rateE pr e) m e m).1 p) from tm2.y hlt]
        refine s_callV_p (M2 := mX0_worthOf) dX0_gains_55 q615 bX0_worthOf inX0_worthOf.2 qs6 rfl (c_worthOf tm2 p hlt (yE (mvE (rateE pr e) m e m).1 p) (tm2.y10 hlt)) rfl rfl (rk (wk_16 rw2.w) rfl rfl) ⟨by decide, by decide, by decide⟩ (Nat.le_of_ble_eq_true rfl) ?_
        rw [wS_woE rw2 r2 hlt (tm2.y10 hlt)]
        refine s_aload_n 0 dX0_gains_58 rfl rfl ?_
        refine s_aload_n 0 dX0_gains_59 rfl rfl ?_
        refine s_getP dX0_gains_60 fl_X0_28 (fo_1_2.at (wk_16 rw2.w)) (wp_16_2 rw2.w) ?_
        refine s_iload_n 2 dX0_gains_63 rfl rfl ?_
        refine s_aload_n 0 dX0_gains_64 rfl rfl ?_
        refine s_getP dX0_gains_65 fl_X0_28 (fo_1_2.at (wk_16 rw2.w)) (wp_16_2 rw2.w) ?_
        refine s_getP dX0_gains_68 fl_X0_153 (fo_2_1.at (wk_19 rw2.w)) (wp_19_1 rw2.w) ?_
        refine s_iload_n 2 dX0_gains_71 rfl rfl ?_
        refine s_bald (j := p) dX0_gains_72 (wk_21 rw2.w) (ixn (wn_21 rw2.w) (ix_nI (by omega) (by decide))) ?_
        rw [show hI h2 21 p = nI (yE e p) from tm3.y hlt]
        refine s_callV_p (M2 := mX0_worthOf) dX0_gains_73 q615 bX0_worthOf inX0_worthOf.2 qs6 rfl (c_worthOf tm3 p hlt (yE e p) (tm3.y10 hlt)) rfl rfl (rk (wk_16 rw2.w) rfl rfl) ⟨by decide, by decide, by decide⟩ (Nat.le_of_ble_eq_true rfl) ?_
        rw [wS_woE rw3 r2 hlt (tm3.y10 hlt)]
        refine s_icmp_le 85 dX0_gains_76 (by decide) (fun c76 => ?_) (fun c76 => ?_)
        · skip
          refine s_iinc (v := nI (p + 1)) (ls' := [(2, _), (1, _), (0, _)]) dX0_gains_85 rfl (nI_succ p).symm (by decide) rfl ?_
          refine s_goto 18 dX0_gains_88 (by decide) ?_
          exact AW.lc (ih hlt ) ⟨rfl, (congrArg (fun x => some (Value.int x)) (gnE_0 (fun y => absurd y.2 (Int32.not_lt.mpr c76))).symm), rfl, trivial⟩
        · skip
          refine s_iload_n 1 dX0_gains_79 rfl rfl ?_
          refine s_iconst (v := 1) dX0_gains_80 rfl ?_
          refine s_iload_n 2 dX0_gains_81 rfl rfl ?_
          refine s_ishl dX0_gains_82 ?_
          refine s_ior dX0_gains_83 ?_
          refine s_istore_n (ls' := [(1, _), (2, _), (0, _)]) 1 dX0_gains_84 rfl (by decide) rfl ?_
          refine s_iinc (v := nI (p + 1)) (ls' := [(2, _), (1, _), (0, _)]) dX0_gains_85 rfl (nI_succ p).symm (by decide) rfl ?_
          refine s_goto 18 dX0_gains_88 (by decide) ?_
          exact AW.lc (ih hlt ) ⟨rfl, (congrArg (fun x => some (Value.int x)) (gnE_1 ⟨hyg, Int32.not_le.mp c76⟩).symm), rfl, trivial⟩
  exact AW.lc (L18 0 (Nat.zero_le _) ) ⟨rfl, rfl, rfl, trivial⟩
def ofE (pr : Pr) (m : Nat) (e : St) (p : Nat) (what : Int32) : Int32 := if what = 0 then e (10 * p) else if what = 1 then e (10 * p + 1) else if what = 2 then e (10 * p + 2) else if what = 3 then e (10 * p + 3) else if what = 4 then (if hrE e p = true then 0 else 1) else if what = 5 then e (10 * p + 5) else if what = 6 then shE (rateE pr e) e m p else if what = 7 then nI (bsE (rateE pr e) e m p) else if inB (what - 10) 0 9 = true then rateE pr e p (what - 10).toNatClampNeg else if inB (what - 20) 0 9 = true then woE (rateE pr e) e m p (what - 20).toNatClampNeg else -10001
def atE (pr : Pr) (m : Nat) (e : St) (p : Nat) (what : Int32) : Int32 := if inB (what - 10) 0 9 = true then rateE pr e p (what - 10).toNatClampNeg else if inB (what - 20) 0 9 = true then woE (rateE pr e) e m p (what - 20).toNatClampNeg else -10001
theorem RW.at40 {h : AH} {t m : Nat} {e : St} {pr : Pr} (rw : RW h t m e pr) {h' : AH} (x : Chg [30, 40] h h') : RW h' t m e pr := rw.chg x (by decide +kernel) (by decide) (by decide) (fun _ => by decide)
theorem c_atYard {h : AH} {m : Nat} {e : St} {pr : Pr} (rw : RW h 19 m e pr) (r : RT h m (rateE pr e)) (p : Nat) (hlt : p < m) (what : Int32) : Con mX0_atYard 28 0 0 [.ref 16, .int (nI p), .int what] h (retG (some (.int (atE pr m e p what))) (fun h' => Chg [30, 40] h h')) nox := by
  have w := rw.w
  have tm := rw.tm
  have h6 := rw.m6
  have hmm := rw.tr.1
  refine Con.of rfl rfl (Nat.le_of_ble_eq_true rfl) ?_
  refine s_iload_n 2 dX0_atYard_0 rfl rfl ?_
  refine s_bipush (v := 10) dX0_atYard_1 rfl ?_
  refine s_isub dX0_atYard_3 ?_
  refine s_callS_p (M2 := mX0_isYard) dX0_atYard_4 q376 stX0_isYard rfl (c_isYard _ _) rfl rfl ⟨by decide, by decide, by decide⟩ (Nat.le_of_ble_eq_true rfl) ?_
  refine s_ifeq_b 26 dX0_atYard_7 (by decide) (fun c7 => ?_) (fun c7 => ?_)
  · skip
    refine s_iload_n 2 dX0_atYard_26 rfl rfl ?_
    refine s_bipush (v := 20) dX0_atYard_27 rfl ?_
    refine s_isub dX0_atYard_29 ?_
    refine s_callS_p (M2 := mX0_isYard) dX0_atYard_30 q376 stX0_isYard rfl (c_isYard _ _) rfl rfl ⟨by decide, by decide, by decide⟩ (Nat.le_of_ble_eq_true rfl) ?_
    refine s_ifeq_b 52 dX0_atYard_33 (by decide) (fun c33 => ?_) (fun c33 => ?_)
    · skip
      refine s_sipush (v := -10001) dX0_atYard_52 rfl ?_
      exact s_ireturn .int dX0_atYard_55 rfl rfl (rg (by unfold atE; rw [if_neg (by rw [c7]; decide), if_neg (by rw [c33]; decide)]) Chg.refl)
    · skip
      refine s_aload_n 0 dX0_atYard_36 rfl rfl ?_
      refine s_aload_n 0 dX0_atYard_37 rfl rfl ?_
      refine s_getP dX0_atYard_38 fl_X0_28 (fo_1_2.at (wk_16 w)) (wp_16_2 w) ?_
      obtain ⟨y, hy, hye⟩ := inB_nI (n := 9) (by decide) c33
      have hyc : (what - 20).toNatClampNeg = y := by rw [hye]; exact nI_clamp (by omega)
      refine s_iload_n 1 dX0_atYard_41 rfl rfl ?_
      refine s_iload_n 2 dX0_atYard_42 rfl rfl ?_
      refine s_bipush (v := 20) dX0_atYard_43 rfl ?_
      refine s_isub dX0_atYard_45 ?_
      rw [hye]
      refine s_callV_p (M2 := mX0_worthOf) dX0_atYard_46 q615 bX0_worthOf inX0_worthOf.2 qs6 rfl (c_worthOf tm p hlt y (by omega)) rfl rfl (rk (wk_16 w) rfl rfl) ⟨by decide, by decide, by decide⟩ (Nat.le_of_ble_eq_true rfl) ?_
      rw [wS_woE rw r hlt (by omega)]
      refine s_goto 55 dX0_atYard_49 (by decide) ?_
      exact s_ireturn .int dX0_atYard_55 rfl rfl (rg (by unfold atE; rw [if_neg (by rw [c7]; decide), if_pos c33, hyc]) Chg.refl)
  · skip
    refine s_aload_n 0 dX0_atYard_10 rfl rfl ?_
    refine s_aload_n 0 dX0_atYard_11 rfl rfl ?_
    refine s_getP dX0_atYard_12 fl_X0_28 (fo_1_2.at (wk_16 w)) (wp_16_2 w) ?_
    obtain ⟨y, hy, hye⟩ := inB_nI (n := 9) (by decide) c7
    have hyc : (what - 10).toNatClampNeg = y := by rw [hye]; exact nI_clamp (by omega)
    refine s_iload_n 1 dX0_atYard_15 rfl rfl ?_
    refine s_iload_n 2 dX0_atYard_16 rfl rfl ?_
    refine s_bipush (v := 10) dX0_atYard_17 rfl ?_
    refine s_isub dX0_atYard_19 ?_
    rw [hye]
    refine s_callV (M2 := mX0_rateOf) dX0_atYard_20 q501 bX0_rateOf inX0_rateOf.2 qs4 rfl (c_rateOf rw p y hlt (by omega)) rfl rfl (rk (wk_16 w) rfl rfl) ⟨by decide, by decide, by decide⟩ (Nat.le_of_ble_eq_true rfl) (fun v1 h1 z1 => ?_) (fun _ _ z => z.elim)
    obtain ⟨rfl, rfl⟩ := z1
    refine s_goto 55 dX0_atYard_23 (by decide) ?_
    exact s_ireturn .int dX0_atYard_55 rfl rfl (rg (by unfold atE; rw [if_pos c7, hyc]) ((lkH_chg _ _).mono (by simp)))
def ofX (pr : Pr) (m : Nat) (e : St) (x what : Int32) : Int32 := if isM m x = true then ofE pr m e x.toNatClampNeg what else -10001
theorem ofX_p {pr : Pr} {m : Nat} {e : St} {p : Nat} {what : Int32} (h6 : m ≤ 6) (hp : p < m) : ofX pr m e (nI p) what = ofE pr m e p what := by
  unfold ofX
  rw [if_pos (isM_p h6 hp), nI_clamp (by omega)]
theorem c_ofX {h : AH} {m : Nat} {e : St} {pr : Pr} (rw : RW h 19 m e pr) (x what : Int32) : Con mX0_of 29 0 0 [.ref 16, .int x, .int what] h (retG (some (.int (ofX pr m e x what))) (fun h' => Chg [30, 40] h h')) nox := by
  have w := rw.w
  have tm := rw.tm
  have h6 := rw.m6
  have hmm := rw.tr.1
  refine Con.of rfl rfl (Nat.le_of_ble_eq_true rfl) ?_
  refine s_aload_n 0 dX0_of_0 rfl rfl ?_
  refine s_iload_n 1 dX0_of_1 rfl rfl ?_
  refine s_callV_p (M2 := mX0_isMourner) dX0_of_2 q656 bX0_isMourner inX0_isMourner.2 qs13 rfl (c_isM rw.w hmm _) rfl rfl (rk (wk_16 w) rfl rfl) ⟨by decide, by decide, by decide⟩ (Nat.le_of_ble_eq_true rfl) ?_
  refine s_ifne_b 12 dX0_of_5 (by decide) (fun c5 => ?_) (fun c5 => ?_)
  · skip
    obtain ⟨p, hlt, rfl⟩ := isM_ex h6 c5
    refine s_aload_n 0 dX0_of_12 rfl rfl ?_
    refine s_aload_n 0 dX0_of_13 rfl rfl ?_
    refine s_getP dX0_of_14 fl_X0_28 (fo_1_2.at (wk_16 w)) (wp_16_2 w) ?_
    refine s_callV (M2 := mX0_looksForRates) dX0_of_17 q497 bX0_looksForRates inX0_looksForRates.2 qs3 rfl (c_looks rw) rfl rfl (rk (wk_16 w) rfl rfl) ⟨by decide, by decide, by decide⟩ (Nat.le_of_ble_eq_true rfl) (fun v1 h1 z1 => ?_) (fun _ _ z => z.elim)
    obtain ⟨rfl, x1, r1⟩ := z1
    have rw1 := rw.at40 x1
    have tm1 := rw1.tm
    have hm := rw1.mo p hlt
    refine s_iload_n 2 dX0_of_20 rfl rfl ?_
    by_cases w0 : what = 0
    · subst w0
      refine s_tableIn 68 dX0_of_21 (by decide) (by decide) rfl (by decide) ?_
      refine s_aload_n 0 dX0_of_68 rfl rfl ?_
      refine s_getP dX0_of_69 fl_X0_17 (fo_1_0.at (wk_16 rw1.w)) (wp_16_0 rw1.w) ?_
      
      refine s_iload_n 1 dX0_of_72 rfl rfl ?_
      
      refine s_aald (j := p) (jj := 6) dX0_of_73 (wk_17 rw1.w) rfl (ixn (wn_17 rw1.w) (ix_nI (by omega) (by decide))) rfl ?_
      refine v_kind hm.1.1 hm.1.2.1.1 dX0_of_74 q505 (by decide) (Nat.le_of_ble_eq_true rfl) ?_
      rw [← hm.2.1]
      exact s_ireturn .int dX0_of_77 rfl rfl (rg (by rw [ofX_p h6 hlt]; rfl) x1)
    by_cases w1 : what = 1
    · subst w1
      refine s_tableIn 78 dX0_of_21 (by decide) (by decide) rfl (by decide) ?_
      refine s_aload_n 0 dX0_of_78 rfl rfl ?_
      refine s_getP dX0_of_79 fl_X0_17 (fo_1_0.at (wk_16 rw1.w)) (wp_16_0 rw1.w) ?_
      refine s_iload_n 1 dX0_of_82 rfl rfl ?_
      refine s_aald (j := p) (jj := 6) dX0_of_83 (wk_17 rw1.w) rfl (ixn (wn_17 rw1.w) (ix_nI (by omega) (by decide))) rfl ?_
      refine s_getI dX0_of_84 fl_X0_171 (fo_M_2 hm.1.mk) ?_
      rw [hm.1.2.2.2.2]
      exact s_ireturn .int dX0_of_87 rfl rfl (rg (by rw [ofX_p h6 hlt]; rfl) x1)
    by_cases w2 : what = 2
    · subst w2
      refine s_tableIn 88 dX0_of_21 (by decide) (by decide) rfl (by decide) ?_
      refine s_aload_n 0 dX0_of_88 rfl rfl ?_
      refine s_getP dX0_of_89 fl_X0_28 (fo_1_2.at (wk_16 rw1.w)) (wp_16_2 rw1.w) ?_
      refine s_getP dX0_of_92 fl_X0_150 (fo_2_0.at (wk_19 rw1.w)) (wp_19_0 rw1.w) ?_
      refine s_iload_n 1 dX0_of_95 rfl rfl ?_
      refine s_bald (j := p) dX0_of_96 (wk_20 rw1.w) (ixn (wn_20 rw1.w) (ix_nI (by omega) (by decide))) ?_
      rw [(rw1.tr.2.2.1 p hlt).1]
      exact s_ireturn .int dX0_of_97 rfl rfl (rg (by rw [ofX_p h6 hlt]; rfl) x1)
    by_cases w3 : what = 3
    · subst w3
      refine s_tableIn 98 dX0_of_21 (by decide) (by decide) rfl (by decide) ?_
      refine s_aload_n 0 dX0_of_98 rfl rfl ?_
      refine s_getP dX0_of_99 fl_X0_28 (fo_1_2.at (wk_16 rw1.w)) (wp_16_2 rw1.w) ?_
      refine s_getP dX0_of_102 fl_X0_153 (fo_2_1.at (wk_19 rw1.w)) (wp_19_1 rw1.w) ?_
      refine s_iload_n 1 dX0_of_105 rfl rfl ?_
      refine s_bald (j := p) dX0_of_106 (wk_21 rw1.w) (ixn (wn_21 rw1.w) (ix_nI (by omega) (by decide))) ?_
      rw [(rw1.tr.2.2.1 p hlt).2.1, ← (rw1.tr.2.2.1 p hlt).2.2.1]
      exact s_ireturn .int dX0_of_107 rfl rfl (rg (by rw [ofX_p h6 hlt]; rfl) x1)
    by_cases w4 : what = 4
    · subst w4
      refine s_tableIn 108 dX0_of_21 (by decide) (by decide) rfl (by decide) ?_
      refine s_aload_n 0 dX0_of_108 rfl rfl ?_
      refine s_getP dX0_of_109 fl_X0_28 (fo_1_2.at (wk_16 rw1.w)) (wp_16_2 rw1.w) ?_
      refine s_iload_n 1 dX0_of_112 rfl rfl ?_
      refine s_callV_p (M2 := mX1_isAway) dX0_of_113 q604 bX1_isAway inX1_isAway.2 q606 rfl (c_isAway _ _ _ (wk_19 rw1.w)) rfl rfl (rk (wk_19 rw1.w) rfl rfl) ⟨by decide, by decide, by decide⟩ (Nat.le_of_ble_eq_true rfl) ?_
      have hgo := (rw1.tr.2.2.1 p hlt).2.2.2.2.2
      change bs (hI h1 19 4) p = _ at hgo
      refine s_ifeq_b 123 dX0_of_116 (by decide) (fun c116 => ?_) (fun c116 => ?_)
      · skip
        have hyg : hrE e p = true := by have y := hgo; rw [show bs (hI h1 19 4) p = false from c116] at y; simpa using y
        refine s_iconst (v := 0) dX0_of_123 rfl ?_
        exact s_ireturn .int dX0_of_124 rfl rfl (rg (by rw [ofX_p h6 hlt, show ofE pr m e p 4 = (if hrE e p = true then 0 else 1) from rfl, if_pos hyg]) x1)
      · skip
        have hng : hrE e p = false := by have y := hgo; rw [show bs (hI h1 19 4) p = true from c116] at y; simpa using y
        refine s_iconst (v := 1) dX0_of_119 rfl ?_
        refine s_goto 124 dX0_of_120 (by decide) ?_
        exact s_ireturn .int dX0_of_124 rfl rfl (rg (by rw [ofX_p h6 hlt, show ofE pr m e p 4 = (if hrE e p = true then 0 else 1) from rfl, if_neg (by rw [hng]; decide)]) x1)
    by_cases w5 : what = 5
    · subst w5
      refine s_tableIn 125 dX0_of_21 (by decide) (by decide) rfl (by decide) ?_
      refine s_aload_n 0 dX0_of_125 rfl rfl ?_
      refine s_getP dX0_of_126 fl_X0_28 (fo_1_2.at (wk_16 rw1.w)) (wp_16_2 rw1.w) ?_
      refine s_getP dX0_of_129 fl_X0_156 (fo_2_2.at (wk_19 rw1.w)) (wp_19_2 rw1.w) ?_
      refine s_iload_n 1 dX0_of_132 rfl rfl ?_
      refine s_iald (j := p) dX0_of_133 (wk_22 rw1.w) (ixn (wn_22 rw1.w) (ix_nI (by omega) (by decide))) ?_
      rw [rw1.tr.pd hlt]
      exact s_ireturn .int dX0_of_134 rfl rfl (rg (by rw [ofX_p h6 hlt]; rfl) x1)
    by_cases w6 : what = 6
    · subst w6
      refine s_tableIn 135 dX0_of_21 (by decide) (by decide) rfl (by decide) ?_
      refine s_aload_n 0 dX0_of_135 rfl rfl ?_
      refine s_aload_n 0 dX0_of_136 rfl rfl ?_
      refine s_getP dX0_of_137 fl_X0_28 (fo_1_2.at (wk_16 rw1.w)) (wp_16_2 rw1.w) ?_
      refine s_iload_n 1 dX0_of_140 rfl rfl ?_
      refine s_aload_n 0 dX0_of_141 rfl rfl ?_
      refine s_getP dX0_of_142 fl_X0_28 (fo_1_2.at (wk_16 rw1.w)) (wp_16_2 rw1.w) ?_
      refine s_callV_p (M2 := mX1_present) dX0_of_145 q619 bX1_present inX1_present.2 q621 rfl (c_present _ _ (wk_19 rw1.w)) rfl rfl (rk (wk_19 rw1.w) rfl rfl) ⟨by decide, by decide, by decide⟩ (Nat.le_of_ble_eq_true rfl) ?_
      refine s_callV_p (M2 := mX0_shareOf) dX0_of_148 q623 bX0_shareOf inX0_shareOf.2 qs7 rfl (c_shareOf tm1 p hlt _) rfl rfl (rk (wk_16 rw1.w) rfl rfl) ⟨by decide, by decide, by decide⟩ (Nat.le_of_ble_eq_true rfl) ?_
      rw [share_shE rw1 r1 hlt]
      exact s_ireturn .int dX0_of_151 rfl rfl (rg (by rw [ofX_p h6 hlt]; rfl) x1)
    by_cases w7 : what = 7
    · subst w7
      refine s_tableIn 152 dX0_of_21 (by decide) (by decide) rfl (by decide) ?_
      refine s_aload_n 0 dX0_of_152 rfl rfl ?_
      refine s_aload_n 0 dX0_of_153 rfl rfl ?_
      refine s_getP dX0_of_154 fl_X0_28 (fo_1_2.at (wk_16 rw1.w)) (wp_16_2 rw1.w) ?_
      refine s_iload_n 1 dX0_of_157 rfl rfl ?_
      refine s_callV_p (M2 := mX0_bestOf) dX0_of_158 q611 bX0_bestOf inX0_bestOf.2 qs5 rfl (c_bestOf tm1 p hlt) rfl rfl (rk (wk_16 rw1.w) rfl rfl) ⟨by decide, by decide, by decide⟩ (Nat.le_of_ble_eq_true rfl) ?_
      rw [bst_bsE rw1 r1 hlt]
      exact s_ireturn .int dX0_of_161 rfl rfl (rg (by rw [ofX_p h6 hlt]; rfl) x1)
    refine s_tableOut 162 dX0_of_21 (sw_n (n := 7) (fun k hk => match k, hk with | 0, _ => w0 | 1, _ => w1 | 2, _ => w2 | 3, _ => w3 | 4, _ => w4 | 5, _ => w5 | 6, _ => w6 | 7, _ => w7 | k + 8, hh => absurd hh (by omega))) (by decide) ?_
    refine s_aload_n 0 dX0_of_162 rfl rfl ?_
    refine s_iload_n 1 dX0_of_163 rfl rfl ?_
    refine s_iload_n 2 dX0_of_164 rfl rfl ?_
    refine s_callV (M2 := mX0_atYard) dX0_of_165 q675 bX0_atYard inX0_atYard.2 qs15 rfl (c_atYard rw1 r1 p hlt what) rfl rfl (rk (wk_16 rw1.w) rfl rfl) ⟨by decide, by decide, by decide⟩ (Nat.le_of_ble_eq_true rfl) (fun v2 h2 z2 => ?_) (fun _ _ z => z.elim)
    obtain ⟨rfl, x2⟩ := z2
    exact s_ireturn .int dX0_of_168 rfl rfl (rg (by rw [ofX_p h6 hlt]; unfold ofE atE; rw [if_neg w0, if_neg w1, if_neg w2, if_neg w3, if_neg w4, if_neg w5, if_neg w6, if_neg w7]) (x1.trans x2))
  · skip
    refine s_sipush (v := -10001) dX0_of_8 rfl ?_
    exact s_ireturn .int dX0_of_11 rfl rfl (rg (by unfold ofX; rw [if_neg (by rw [c5]; decide)]) Chg.refl)
