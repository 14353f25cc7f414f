/-! the component: days that pass, who is kept, what is owed, what one can -/
set_option maxRecDepth 100000
/-- no more is paid than there is room for -/
def clpE (m : Nat) (e : St) : Nat → St
  | 0 => e
  | n + 1 => upE (clpE m e n) (10 * n + 5) (minJ 999999 (clpE m e n (10 * n + 5)))
def paV (pr : Pr) (m : Nat) (e : St) (n : Int32) : Int32 := if inB n 0 20 = true then (if 9999 < e 62 + n then -3 else (clpE m (dayN pr m e n.toNatClampNeg) m) 62) else -2
def paS (pr : Pr) (m : Nat) (e : St) (n : Int32) : St := if inB n 0 20 = true then (if 9999 < e 62 + n then e else clpE m (dayN pr m e n.toNatClampNeg) m) else e
def S19 : List Nat := [19, 21, 22, 30, 40]
theorem pa_1 {pr : Pr} {m : Nat} {e : St} {n : Int32} (c : inB n 0 20 = false) : paV pr m e n = -2 ∧ paS pr m e n = e := ⟨if_neg (by rw [c]; decide), if_neg (by rw [c]; decide)⟩
theorem pa_2 {pr : Pr} {m : Nat} {e : St} {n : Int32} (c : inB n 0 20 = true) (c2 : 9999 < e 62 + n) : paV pr m e n = -3 ∧ paS pr m e n = e := ⟨(if_pos c).trans (if_pos c2), (if_pos c).trans (if_pos c2)⟩
theorem pa_3 {pr : Pr} {m : Nat} {e : St} {k : Nat} (hk : k ≤ 20) (c2 : ¬ 9999 < e 62 + nI k) : paV pr m e (nI k) = (clpE m (dayN pr m e k) m) 62 ∧ paS pr m e (nI k) = clpE m (dayN pr m e k) m := by
  have c : inB (nI k) 0 20 = true := nI_inB (n := 20) (by decide) hk
  refine ⟨(if_pos c).trans ((if_neg c2).trans ?_), (if_pos c).trans ((if_neg c2).trans ?_)⟩
  · rw [nI_clamp (by omega)]
  · rw [nI_clamp (by omega)]
theorem c_pass {h : AH} {m : Nat} {e : St} {pr : Pr} (rw : RW h 19 m e pr) (n : Int32) : Con mX0_pass 32 0 0 [.ref 16, .int n] h (retG (some (.int (paV pr m e n))) (fun h' => Chg S19 h h' ∧ RW h' 19 m (paS pr m e n) pr)) nox := by
  have w := rw.w
  have tm := rw.tm
  have h6 := rw.m6
  have hmm := rw.tr.1
  refine Con.of rfl rfl (Nat.le_of_ble_eq_true rfl) ?_
  refine s_iload_n 1 dX0_pass_0 rfl rfl ?_
  refine s_callS_p (M2 := mX0_isOn) dX0_pass_1 q486 stX0_isOn rfl (c_isOn _ _) rfl rfl ⟨by decide, by decide, by decide⟩ (Nat.le_of_ble_eq_true rfl) ?_
  refine s_ifne_b 10 dX0_pass_4 (by decide) (fun c4 => ?_) (fun c4 => ?_)
  · skip
    refine s_aload_n 0 dX0_pass_10 rfl rfl ?_
    refine s_getP dX0_pass_11 fl_X0_28 (fo_1_2.at (wk_16 w)) (wp_16_2 w) ?_
    refine s_getI dX0_pass_14 fl_X0_181 (fo_2_6.at (wk_19 w)) ?_
    rw [rw.tr.dy]
    refine s_iload_n 1 dX0_pass_17 rfl rfl ?_
    refine s_iadd dX0_pass_18 ?_
    refine s_sipush (v := 9999) dX0_pass_19 rfl ?_
    refine s_icmp_le 28 dX0_pass_22 (by decide) (fun c22 => ?_) (fun c22 => ?_)
    · skip
      obtain ⟨k, hk, rfl⟩ := inB_nI (n := 20) (by decide) c4
      refine s_iconst (v := 0) dX0_pass_28 rfl ?_
      refine s_istore_n (ls' := [(2, _), (0, _), (1, _)]) 2 dX0_pass_29 rfl (by decide) rfl ?_
      have L30 : ∀ j : Nat, j ≤ k → ∀ h2 : AH, Chg S19 h h2 → RW h2 19 m (dayN pr m e j) pr → AW mX0_pass 32 (retG (some (.int (paV pr m e (nI k)))) (fun h' => Chg S19 h h' ∧ RW h' 19 m (paS pr m e (nI k)) pr)) nox 0 0 30 [(2, .int (nI j)), (0, .ref 16), (1, .int (nI k))] [] h2 := by
        refine for_up (fun j hpj ih => ?_)
        intro h2 x1 rw2
        have w := rw2.w
        refine s_iload_n 2 dX0_pass_30 rfl rfl ?_
        refine s_iload_n 1 dX0_pass_31 rfl rfl ?_
        refine s_icmp_ge 50 dX0_pass_32 (by decide) (fun c32 => ?_) (fun c32 => ?_)
        · skip
          have hge := le_ge (y := nI k) rfl (by omega) (by omega) c32
          obtain rfl : j = k := by omega
          refine s_iconst (v := 0) dX0_pass_50 rfl ?_
          refine s_istore_n (ls' := [(2, _), (0, _), (1, _)]) 2 dX0_pass_51 rfl (by decide) rfl ?_
          have L52 : ∀ p : Nat, p ≤ m → ∀ h3 : AH, Chg S19 h h3 → RW h3 19 m (clpE m (dayN pr m e j) p) pr → AW mX0_pass 32 (retG (some (.int (paV pr m e (nI j)))) (fun h' => Chg S19 h h' ∧ RW h' 19 m (paS pr m e (nI j)) pr)) nox 0 0 52 [(2, .int (nI p)), (0, .ref 16)] [] h3 := by
            refine for_up (fun p hpp ih52 => ?_)
            intro h3 x3 rw3
            have w := rw3.w
            refine s_iload_n 2 dX0_pass_52 rfl rfl ?_
            refine s_aload_n 0 dX0_pass_53 rfl rfl ?_
            refine s_getP dX0_pass_54 fl_X0_28 (fo_1_2.at (wk_16 w)) (wp_16_2 w) ?_
            refine s_getI dX0_pass_57 fl_X0_115 (fo_2_3.at (wk_19 w)) ?_
            refine s_icmp_ge 92 dX0_pass_60 (by decide) (fun c60 => ?_) (fun c60 => ?_)
            · skip
              have hge := le_ge rw3.tr.1 (by omega) (by omega) c60
              obtain rfl : p = m := by omega
              refine s_aload_n 0 dX0_pass_92 rfl rfl ?_
              refine s_getP dX0_pass_93 fl_X0_28 (fo_1_2.at (wk_16 w)) (wp_16_2 w) ?_
              refine s_getI dX0_pass_96 fl_X0_181 (fo_2_6.at (wk_19 w)) ?_
              rw [rw3.tr.dy]
              exact s_ireturn .int dX0_pass_99 rfl rfl ⟨by rw [(pa_3 hk (Int32.not_lt.mpr c22)).1], x3, by rw [(pa_3 hk (Int32.not_lt.mpr c22)).2]; exact rw3⟩
            · skip
              have hlt := nle_lt rw3.tr.1 (by omega) (by omega) c60
              refine s_aload_n 0 dX0_pass_63 rfl rfl ?_
              refine s_getP dX0_pass_64 fl_X0_28 (fo_1_2.at (wk_16 w)) (wp_16_2 w) ?_
              refine s_getP dX0_pass_67 fl_X0_156 (fo_2_2.at (wk_19 w)) (wp_19_2 w) ?_
              refine s_iload_n 2 dX0_pass_70 rfl rfl ?_
              refine s_ldc dX0_pass_71 q648 ?_
              refine s_aload_n 0 dX0_pass_73 rfl rfl ?_
              refine s_getP dX0_pass_74 fl_X0_28 (fo_1_2.at (wk_16 w)) (wp_16_2 w) ?_
              refine s_getP dX0_pass_77 fl_X0_156 (fo_2_2.at (wk_19 w)) (wp_19_2 w) ?_
              refine s_iload_n 2 dX0_pass_80 rfl rfl ?_
              refine s_iald (j := p) dX0_pass_81 (wk_22 w) (ixn (wn_22 w) (ix_nI (by omega) (by decide))) ?_
              rw [rw3.tr.pd hlt]
              refine s_mmin dX0_pass_82 q649 (by decide) (Nat.le_of_ble_eq_true rfl) ?_
              refine s_iast (j := p) dX0_pass_85 (wk_22 w) (Nat.le_of_ble_eq_true rfl) (ixn (wn_22 w) (ix_nI (by omega) (by decide))) ?_
              refine s_iinc (v := nI (p + 1)) (ls' := [(2, _), (0, _)]) dX0_pass_86 rfl (nI_succ p).symm (by decide) rfl ?_
              refine s_goto 52 dX0_pass_89 (by decide) ?_
              exact AW.lc (ih52 hlt _ (x3.s (by decide)) (rw3.paid hlt)) ⟨rfl, rfl, trivial⟩
          exact AW.lc (L52 0 (Nat.zero_le _) _ x1 rw2) ⟨rfl, rfl, trivial⟩
        · skip
          have hlt := nle_lt (y := nI k) rfl (by omega) (by omega) c32
          refine s_aload_n 0 dX0_pass_35 rfl rfl ?_
          refine s_aload_n 0 dX0_pass_36 rfl rfl ?_
          refine s_getP dX0_pass_37 fl_X0_28 (fo_1_2.at (wk_16 w)) (wp_16_2 w) ?_
          refine s_callV (M2 := mX0_goes) dX0_pass_40 q489 bX0_goes inX0_goes.2 qs1 rfl (c_goes rw2) rfl rfl (rk (wk_16 w) rfl rfl) ⟨by decide, by decide, by decide⟩ (Nat.le_of_ble_eq_true rfl) (fun v1 h1 z1 => ?_) (fun _ _ z => z.elim)
          obtain ⟨rfl, x2, rw4⟩ := z1
          refine s_pop dX0_pass_43 rfl ?_
          refine s_iinc (v := nI (j + 1)) (ls' := [(2, _), (0, _), (1, _)]) dX0_pass_44 rfl (nI_succ j).symm (by decide) rfl ?_
          refine s_goto 30 dX0_pass_47 (by decide) ?_
          exact AW.lc (ih hlt _ (x1.trans (x2.mono (by decide))) rw4) ⟨rfl, rfl, rfl, trivial⟩
      exact AW.lc (L30 0 (Nat.zero_le _) _ Chg.refl rw) ⟨rfl, rfl, rfl, trivial⟩
    · skip
      refine s_bipush (v := -3) dX0_pass_25 rfl ?_
      exact s_ireturn .int dX0_pass_27 rfl rfl ⟨by rw [(pa_2 c4 (Int32.not_le.mp c22)).1], Chg.refl, by rw [(pa_2 c4 (Int32.not_le.mp c22)).2]; exact rw⟩
  · skip
    refine s_bipush (v := -2) dX0_pass_7 rfl ?_
    exact s_ireturn .int dX0_pass_9 rfl rfl ⟨by rw [(pa_1 c4).1], Chg.refl, by rw [(pa_1 c4).2]; exact rw⟩
theorem two_m : ∀ m, m ≤ 6 → (1 : Int32) <<< (nI m &&& 31) = nI (2 ^ m) := by decide
theorem two_64 {m : Nat} (h6 : m ≤ 6) : 2 ^ m ≤ 64 := Nat.pow_le_pow_right (by decide) h6
/-- one's share if those of a set weren't there -/
def ksE (f : Nat → Nat → Int32) (e : St) (m p s : Nat) : Int32 := shareS (fun q => hrE e q && !bs (nI s) q) (fun q => maxJ 0 (f q (yE e q))) (e 61) m p
def kbE (f : Nat → Nat → Int32) (e : St) (m p : Nat) (q : Int32) : Nat → Int32
  | 0 => -5
  | s + 1 => if (kbE f e m p q s = -5 ∨ bcS (nI s) < bcS (kbE f e m p q s)) ∧ bs (nI s) p = false ∧ q ≤ ksE f e m p s then nI s else kbE f e m p q s
def keE (pr : Pr) (m : Nat) (e : St) (x q : Int32) : Int32 := if isM m x = true then (if inB q 0 999 = true then (if hrE e x.toNatClampNeg = true then kbE (rateE pr e) e m x.toNatClampNeg q (2 ^ m) else -5) else -2) else -1
section KB
variable {f : Nat → Nat → Int32} {e : St} {m p s : Nat} {q : Int32}
theorem kb_1 (c : (kbE f e m p q s = -5 ∨ bcS (nI s) < bcS (kbE f e m p q s)) ∧ bs (nI s) p = false ∧ q ≤ ksE f e m p s) : kbE f e m p q (s + 1) = nI s := if_pos c
theorem kb_0 (c : ¬ ((kbE f e m p q s = -5 ∨ bcS (nI s) < bcS (kbE f e m p q s)) ∧ bs (nI s) p = false ∧ q ≤ ksE f e m p s)) : kbE f e m p q (s + 1) = kbE f e m p q s := if_neg c
end KB
theorem ks_share {h : AH} {t m : Nat} {e : St} {pr : Pr} {f : Nat → Nat → Int32} (rw : RW h t m e pr) (r : RT h m f) {p s : Nat} (hp : p < m) : shareS (bs (presS (hI h t 3) (hI h t 4) &&& (nI s ^^^ (-1)))) (rh h (yE e)) (hI h t 5) m p = ksE f e m p s := by
  have z := rw.tr
  have h6 := z.2.1
  exact shareS_c z.2.2.2.1 (fun q hq => by rw [bs_and _ _ (by omega), bs_pres z hq, bs_not _ (by omega)]) (fun q hq => rh_f r (fun q hq => z.y10 hq) hq) hp
theorem c_kept {h : AH} {m : Nat} {e : St} {pr : Pr} (rw : RW h 19 m e pr) (x q : Int32) : Con mX0_kept 29 0 0 [.ref 16, .int x, .int q] h (retG (some (.int (keE pr m e x q))) (fun h' => Chg [30, 40] h h')) nox := by
  have w := rw.w
  have tm := rw.tm
  have h6 := rw.m6
  have hmm := rw.tr.1
  have h64 := two_64 h6
  refine Con.of rfl rfl (Nat.le_of_ble_eq_true rfl) ?_
  refine s_aload_n 0 dX0_kept_0 rfl rfl ?_
  refine s_iload_n 1 dX0_kept_1 rfl rfl ?_
  refine s_callV_p (M2 := mX0_isMourner) dX0_kept_2 q656 bX0_isMourner inX0_isMourner.2 qs13 rfl (c_isM rw.w hmm _) rfl rfl (rk (wk_16 w) rfl rfl) ⟨by decide, by decide, by decide⟩ (Nat.le_of_ble_eq_true rfl) ?_
  refine s_ifne_b 10 dX0_kept_5 (by decide) (fun c5 => ?_) (fun c5 => ?_)
  · skip
    refine s_iload_n 2 dX0_kept_10 rfl rfl ?_
    refine s_callS_p (M2 := mX0_isDebt) dX0_kept_11 q691 stX0_isDebt rfl (c_isDebt _ _) rfl rfl ⟨by decide, by decide, by decide⟩ (Nat.le_of_ble_eq_true rfl) ?_
    refine s_ifne_b 20 dX0_kept_14 (by decide) (fun c14 => ?_) (fun c14 => ?_)
    · skip
      refine s_aload_n 0 dX0_kept_20 rfl rfl ?_
      refine s_getP dX0_kept_21 fl_X0_28 (fo_1_2.at (wk_16 w)) (wp_16_2 w) ?_
      obtain ⟨p, hlt, rfl⟩ := isM_ex h6 c5
      have hpc : (nI p).toNatClampNeg = p := nI_clamp (by omega)
      refine s_iload_n 1 dX0_kept_24 rfl rfl ?_
      refine s_callV_p (M2 := mX1_isAway) dX0_kept_25 q604 bX1_isAway inX1_isAway.2 q606 rfl (c_isAway _ _ _ (wk_19 w)) rfl rfl (rk (wk_19 w) rfl rfl) ⟨by decide, by decide, by decide⟩ (Nat.le_of_ble_eq_true rfl) ?_
      have hgo := (rw.tr.2.2.1 p hlt).2.2.2.2.2
      change bs (hI h 19 4) p = _ at hgo
      refine s_ifeq_b 34 dX0_kept_28 (by decide) (fun c28 => ?_) (fun c28 => ?_)
      · skip
        have hyg : hrE e p = true := by have y := hgo; rw [show bs (hI h 19 4) p = false from c28] at y; simpa using y
        refine s_aload_n 0 dX0_kept_34 rfl rfl ?_
        refine s_aload_n 0 dX0_kept_35 rfl rfl ?_
        refine s_getP dX0_kept_36 fl_X0_28 (fo_1_2.at (wk_16 w)) (wp_16_2 w) ?_
        refine s_callV (M2 := mX0_looksForRates) dX0_kept_39 q497 bX0_looksForRates inX0_looksForRates.2 qs3 rfl (c_looks rw) rfl rfl (rk (wk_16 w) rfl rfl) ⟨by decide, by decide, by decide⟩ (Nat.le_of_ble_eq_true rfl) (fun v1 h1 z1 => ?_) (fun _ _ z => z.elim)
        obtain ⟨rfl, x1, r1⟩ := z1
        have rw1 := rw.at40 x1
        have tm1 := rw1.tm
        refine s_bipush (v := -5) dX0_kept_42 rfl ?_
        refine s_istore_n (ls' := [(3, _), (0, _), (1, _), (2, _)]) 3 dX0_kept_44 rfl (by decide) rfl ?_
        refine s_iconst (v := 0) dX0_kept_45 rfl ?_
        refine s_istore (ls' := [(4, _), (3, _), (0, _), (1, _), (2, _)]) dX0_kept_46 (by decide) rfl ?_
        have L48 : ∀ s : Nat, s ≤ (2 ^ m) → AW mX0_kept 29 (retG (some (.int (keE pr m e (nI p) q))) (fun h' => Chg [30, 40] h h')) nox 0 0 48 [(4, .int (nI s)), (3, .int (kbE (rateE pr e) e m p q s)), (0, .ref 16), (1, .int (nI p)), (2, .int q)] [] h1 := by
          refine for_up (fun s hps ih => ?_)
          refine s_iload dX0_kept_48 rfl ?_
          refine s_iconst (v := 1) dX0_kept_50 rfl ?_
          refine s_aload_n 0 dX0_kept_51 rfl rfl ?_
          refine s_getP dX0_kept_52 fl_X0_28 (fo_1_2.at (wk_16 rw1.w)) (wp_16_2 rw1.w) ?_
          refine s_getI dX0_kept_55 fl_X0_115 (fo_2_3.at (wk_19 rw1.w)) ?_
          refine s_ishl dX0_kept_58 ?_
          rw [rw1.tr.1, two_m m h6]
          refine s_icmp_ge 135 dX0_kept_59 (by decide) (fun c59 => ?_) (fun c59 => ?_)
          · skip
            have hge := le_ge (y := nI (2 ^ m)) rfl (by omega) (by omega) c59
            obtain rfl : s = 2 ^ m := by omega
            refine s_iload_n 3 dX0_kept_135 rfl rfl ?_
            exact s_ireturn .int dX0_kept_136 rfl rfl (rg (by unfold keE; rw [if_pos c5, if_pos c14, hpc, if_pos hyg]) x1)
          · skip
            have hlts := nle_lt (y := nI (2 ^ m)) rfl (by omega) (by omega) c59
            refine s_iload_n 3 dX0_kept_62 rfl rfl ?_
            refine s_bipush (v := -5) dX0_kept_63 rfl ?_
            refine s_icmp_eq 80 dX0_kept_65 (by decide) (fun c65 => ?_) (fun c65 => ?_)
            · skip
              refine s_iconst (v := 1) dX0_kept_80 rfl ?_
              refine s_goto 85 dX0_kept_81 (by decide) ?_
              refine s_istore (ls' := [(5, _), (4, _), (3, _), (0, _), (1, _), (2, _)]) dX0_kept_85 (by decide) rfl ?_
              refine s_iload dX0_kept_87 rfl ?_
              refine s_if_eq 129 dX0_kept_89 (by decide) (fun c89 => ?_) (fun c89 => ?_)
              · exact absurd c89 (by decide)
              · skip
                refine s_iload dX0_kept_92 rfl ?_
                refine s_iload_n 1 dX0_kept_94 rfl rfl ?_
                refine s_callS_p (M2 := mX0_isIn) dX0_kept_95 q627 stX0_isIn rfl (c_isIn _ _ _) rfl rfl ⟨by decide, by decide, by decide⟩ (Nat.le_of_ble_eq_true rfl) ?_
                refine s_ifne_b 129 dX0_kept_98 (by decide) (fun c98 => ?_) (fun c98 => ?_)
                · skip
                  refine s_iinc (v := nI (s + 1)) (ls' := [(4, _), (5, _), (3, _), (0, _), (1, _), (2, _)]) dX0_kept_129 rfl (nI_succ s).symm (by decide) rfl ?_
                  refine s_goto 48 dX0_kept_132 (by decide) ?_
                  exact AW.lc (ih hlts ) ⟨rfl, (congrArg (fun x => some (Value.int x)) (kb_0 (fun y => by have y2 := y.2.1; rw [show bs (nI s) p = true from c98] at y2; cases y2)).symm), rfl, rfl, rfl, trivial⟩
                · skip
                  refine s_aload_n 0 dX0_kept_101 rfl rfl ?_
                  refine s_aload_n 0 dX0_kept_102 rfl rfl ?_
                  refine s_getP dX0_kept_103 fl_X0_28 (fo_1_2.at (wk_16 rw1.w)) (wp_16_2 rw1.w) ?_
                  refine s_iload_n 1 dX0_kept_106 rfl rfl ?_
                  refine s_aload_n 0 dX0_kept_107 rfl rfl ?_
                  refine s_getP dX0_kept_108 fl_X0_28 (fo_1_2.at (wk_16 rw1.w)) (wp_16_2 rw1.w) ?_
                  refine s_callV_p (M2 := mX1_present) dX0_kept_111 q619 bX1_present inX1_present.2 q621 rfl (c_present _ _ (wk_19 rw1.w)) rfl rfl (rk (wk_19 rw1.w) rfl rfl) ⟨by decide, by decide, by decide⟩ (Nat.le_of_ble_eq_true rfl) ?_
                  refine s_iload dX0_kept_114 rfl ?_
                  refine s_iconst (v := -1) dX0_kept_116 rfl ?_
                  refine s_ixor dX0_kept_117 ?_
                  refine s_iand dX0_kept_118 ?_
                  refine s_callV_p (M2 := mX0_shareOf) dX0_kept_119 q623 bX0_shareOf inX0_shareOf.2 qs7 rfl (c_shareOf tm1 p hlt _) rfl rfl (rk (wk_16 rw1.w) rfl rfl) ⟨by decide, by decide, by decide⟩ (Nat.le_of_ble_eq_true rfl) ?_
                  rw [ks_share rw1 r1 hlt]
                  refine s_iload_n 2 dX0_kept_122 rfl rfl ?_
                  refine s_icmp_lt 129 dX0_kept_123 (by decide) (fun c123 => ?_) (fun c123 => ?_)
                  · skip
                    refine s_iinc (v := nI (s + 1)) (ls' := [(4, _), (5, _), (3, _), (0, _), (1, _), (2, _)]) dX0_kept_129 rfl (nI_succ s).symm (by decide) rfl ?_
                    refine s_goto 48 dX0_kept_132 (by decide) ?_
                    exact AW.lc (ih hlts ) ⟨rfl, (congrArg (fun x => some (Value.int x)) (kb_0 (fun y => absurd y.2.2 (Int32.not_le.mpr c123))).symm), rfl, rfl, rfl, trivial⟩
                  · skip
                    refine s_iload dX0_kept_126 rfl ?_
                    refine s_istore_n (ls' := [(3, _), (5, _), (4, _), (0, _), (1, _), (2, _)]) 3 dX0_kept_128 rfl (by decide) rfl ?_
                    refine s_iinc (v := nI (s + 1)) (ls' := [(4, _), (3, _), (5, _), (0, _), (1, _), (2, _)]) dX0_kept_129 rfl (nI_succ s).symm (by decide) rfl ?_
                    refine s_goto 48 dX0_kept_132 (by decide) ?_
                    exact AW.lc (ih hlts ) ⟨rfl, (congrArg (fun x => some (Value.int x)) (kb_1 ⟨(Or.inl c65), c98, Int32.not_lt.mp c123⟩).symm), rfl, rfl, rfl, trivial⟩
            · skip
              refine s_iload dX0_kept_68 rfl ?_
              refine s_callS_p (M2 := mJ14_bitCount) dX0_kept_70 q1064 stJ14_bitCount rfl (c_bitCount _ _) rfl rfl ⟨by decide, by decide, by decide⟩ (Nat.le_of_ble_eq_true rfl) ?_
              refine s_iload_n 3 dX0_kept_73 rfl rfl ?_
              refine s_callS_p (M2 := mJ14_bitCount) dX0_kept_74 q1064 stJ14_bitCount rfl (c_bitCount _ _) rfl rfl ⟨by decide, by decide, by decide⟩ (Nat.le_of_ble_eq_true rfl) ?_
              refine s_icmp_ge 84 dX0_kept_77 (by decide) (fun c77 => ?_) (fun c77 => ?_)
              · skip
                refine s_iconst (v := 0) dX0_kept_84 rfl ?_
                refine s_istore (ls' := [(5, _), (4, _), (3, _), (0, _), (1, _), (2, _)]) dX0_kept_85 (by decide) rfl ?_
                refine s_iload dX0_kept_87 rfl ?_
                refine s_if_eq 129 dX0_kept_89 (by decide) (fun c89 => ?_) (fun c89 => ?_)
                · skip
                  refine s_iinc (v := nI (s + 1)) (ls' := [(4, _), (5, _), (3, _), (0, _), (1, _), (2, _)]) dX0_kept_129 rfl (nI_succ s).symm (by decide) rfl ?_
                  refine s_goto 48 dX0_kept_132 (by decide) ?_
                  exact AW.lc (ih hlts ) ⟨rfl, (congrArg (fun x => some (Value.int x)) (kb_0 (fun y => by rcases y.1 with y | y; exact c65 y; exact absurd y (Int32.not_lt.mpr c77))).symm), rfl, rfl, rfl, trivial⟩
                · exact absurd rfl c89
              · skip
                refine s_iconst (v := 1) dX0_kept_80 rfl ?_
                refine s_goto 85 dX0_kept_81 (by decide) ?_
                refine s_istore (ls' := [(5, _), (4, _), (3, _), (0, _), (1, _), (2, _)]) dX0_kept_85 (by decide) rfl ?_
                refine s_iload dX0_kept_87 rfl ?_
                refine s_if_eq 129 dX0_kept_89 (by decide) (fun c89 => ?_) (fun c89 => ?_)
                · exact absurd c89 (by decide)
                · skip
                  refine s_iload dX0_kept_92 rfl ?_
                  refine s_iload_n 1 dX0_kept_94 rfl rfl ?_
                  refine s_callS_p (M2 := mX0_isIn) dX0_kept_95 q627 stX0_isIn rfl (c_isIn _ _ _) rfl rfl ⟨by decide, by decide, by decide⟩ (Nat.le_of_ble_eq_true rfl) ?_
                  refine s_ifne_b 129 dX0_kept_98 (by decide) (fun c98 => ?_) (fun c98 => ?_)
                  · skip
                    refine s_iinc (v := nI (s + 1)) (ls' := [(4, _), (5, _), (3, _), (0, _), (1, _), (2, _)]) dX0_kept_129 rfl (nI_succ s).symm (by decide) rfl ?_
                    refine s_goto 48 dX0_kept_132 (by decide) ?_
                    exact AW.lc (ih hlts ) ⟨rfl, (congrArg (fun x => some (Value.int x)) (kb_0 (fun y => by have y2 := y.2.1; rw [show bs (nI s) p = true from c98] at y2; cases y2)).symm), rfl, rfl, rfl, trivial⟩
                  · skip
                    refine s_aload_n 0 dX0_kept_101 rfl rfl ?_
                    refine s_aload_n 0 dX0_kept_102 rfl rfl ?_
                    refine s_getP dX0_kept_103 fl_X0_28 (fo_1_2.at (wk_16 rw1.w)) (wp_16_2 rw1.w) ?_
                    refine s_iload_n 1 dX0_kept_106 rfl rfl ?_
                    refine s_aload_n 0 dX0_kept_107 rfl rfl ?_
                    refine s_getP dX0_kept_108 fl_X0_28 (fo_1_2.at (wk_16 rw1.w)) (wp_16_2 rw1.w) ?_
                    refine s_callV_p (M2 := mX1_present) dX0_kept_111 q619 bX1_present inX1_present.2 q621 rfl (c_present _ _ (wk_19 rw1.w)) rfl rfl (rk (wk_19 rw1.w) rfl rfl) ⟨by decide, by decide, by decide⟩ (Nat.le_of_ble_eq_true rfl) ?_
                    refine s_iload dX0_kept_114 rfl ?_
                    refine s_iconst (v := -1) dX0_kept_116 rfl ?_
                    refine s_ixor dX0_kept_117 ?_
                    refine s_iand dX0_kept_118 ?_
                    refine s_callV_p (M2 := mX0_shareOf) dX0_kept_119 q623 bX0_shareOf inX0_shareOf.2 qs7 rfl (c_shareOf tm1 p hlt _) rfl rfl (rk (wk_16 rw1.w) rfl rfl) ⟨by decide, by decide, by decide⟩ (Nat.le_of_ble_eq_true rfl) ?_
                    rw [ks_share rw1 r1 hlt]
                    refine s_iload_n 2 dX0_kept_122 rfl rfl ?_
                    refine s_icmp_lt 129 dX0_kept_123 (by decide) (fun c123 => ?_) (fun c123 => ?_)
                    · skip
                      refine s_iinc (v := nI (s + 1)) (ls' := [(4, _), (5, _), (3, _), (0, _), (1, _), (2, _)]) dX0_kept_129 rfl (nI_succ s).symm (by decide) rfl ?_
                      refine s_goto 48 dX0_kept_132 (by decide) ?_
                      exact AW.lc (ih hlts ) ⟨rfl, (congrArg (fun x => some (Value.int x)) (kb_0 (fun y => absurd y.2.2 (Int32.not_le.mpr c123))).symm), rfl, rfl, rfl, trivial⟩
                    · skip
                      refine s_iload dX0_kept_126 rfl ?_
                      refine s_istore_n (ls' := [(3, _), (5, _), (4, _), (0, _), (1, _), (2, _)]) 3 dX0_kept_128 rfl (by decide) rfl ?_
                      refine s_iinc (v := nI (s + 1)) (ls' := [(4, _), (3, _), (5, _), (0, _), (1, _), (2, _)]) dX0_kept_129 rfl (nI_succ s).symm (by decide) rfl ?_
                      refine s_goto 48 dX0_kept_132 (by decide) ?_
                      exact AW.lc (ih hlts ) ⟨rfl, (congrArg (fun x => some (Value.int x)) (kb_1 ⟨(Or.inr (Int32.not_le.mp c77)), c98, Int32.not_lt.mp c123⟩).symm), rfl, rfl, rfl, trivial⟩
        exact AW.lc (L48 0 (Nat.zero_le _) ) ⟨rfl, rfl, rfl, rfl, rfl, trivial⟩
      · skip
        have hng : hrE e p = false := by have y := hgo; rw [show bs (hI h 19 4) p = true from c28] at y; simpa using y
        refine s_bipush (v := -5) dX0_kept_31 rfl ?_
        exact s_ireturn .int dX0_kept_33 rfl rfl (rg (by unfold keE; rw [if_pos c5, if_pos c14, hpc, if_neg (by rw [hng]; decide)]) Chg.refl)
    · skip
      refine s_bipush (v := -2) dX0_kept_17 rfl ?_
      exact s_ireturn .int dX0_kept_19 rfl rfl (rg (by unfold keE; rw [if_pos c5, if_neg (by rw [c14]; decide)]) Chg.refl)
  · skip
    refine s_iconst (v := -1) dX0_kept_8 rfl ?_
    exact s_ireturn .int dX0_kept_9 rfl rfl (rg (by unfold keE; rw [if_neg (by rw [c5]; decide)]) Chg.refl)
/-- what was seen: of whom, what share -/
def SEr (h : AH) (sm ss : Nat) (c : Int32) (m : Nat) (e : St) : Prop := ∃ n, n ≤ 5 ∧ c = nI n ∧ e 64 = nI n ∧ ∀ k, k < n → hI h sm k = e (65 + 2 * k) ∧ hI h ss k = e (66 + 2 * k) ∧ ∃ q, q < m ∧ e (65 + 2 * k) = nI q
def soE (f : Nat → Nat → Int32) (e : St) (m : Nat) : Nat → Bool
  | 0 => true
  | k + 1 => soE f e m k && decide (shE f e m (e (65 + 2 * k)).toNatClampNeg = e (66 + 2 * k))
theorem soE_f {f : Nat → Nat → Int32} {e : St} {m p : Nat} (c : ¬ shE f e m (e (65 + 2 * p)).toNatClampNeg = e (66 + 2 * p)) : ∀ {n : Nat}, p < n → soE f e m n = false
  | 0, h => by omega
  | n + 1, h => by
    unfold soE
    by_cases y : p = n
    · subst y; rw [decide_eq_false c, Bool.and_false]
    · rw [soE_f c (n := n) (by omega), Bool.false_and]
theorem soE_t {f : Nat → Nat → Int32} {e : St} {m p : Nat} (hp : soE f e m p = true) (c : shE f e m (e (65 + 2 * p)).toNatClampNeg = e (66 + 2 * p)) : soE f e m (p + 1) = true := by
  unfold soE
  rw [hp, decide_eq_true c]
  rfl
theorem c_areSo {h : AH} {m : Nat} {e : St} {pr : Pr} {f : Nat → Nat → Int32} (rw : RW h 23 m e pr) (r : RT h m f) {n : Nat} (hn : n ≤ 5) (hc : hI h 16 16 = nI n) (hs : ∀ k, k < n → hI h 33 k = e (65 + 2 * k) ∧ hI h 34 k = e (66 + 2 * k) ∧ ∃ q, q < m ∧ e (65 + 2 * k) = nI q) : Con mX0_areSo 6 0 0 [.ref 16] h (retV (.int (b2i (soE f e m n))) h) nox := by
  have w := rw.w
  have tm := rw.tm
  have h6 := rw.m6
  refine Con.of rfl rfl (Nat.le_of_ble_eq_true rfl) ?_
  refine s_iconst (v := 0) dX0_areSo_0 rfl ?_
  refine s_istore_n (ls' := [(1, _), (0, _)]) 1 dX0_areSo_1 rfl (by decide) rfl ?_
  have L2 : ∀ p : Nat, p ≤ n → soE f e m p = true → AW mX0_areSo 6 (retV (.int (b2i (soE f e m n))) h) nox 0 0 2 [(1, .int (nI p)), (0, .ref 16)] [] h := by
    refine for_up (fun p hpp ih => ?_)
    intro hso
    refine s_iload_n 1 dX0_areSo_2 rfl rfl ?_
    refine s_aload_n 0 dX0_areSo_3 rfl rfl ?_
    refine s_getI dX0_areSo_4 fl_X0_313 (fo_1_16.at (wk_16 w)) ?_
    rw [hc]
    refine s_icmp_ge 48 dX0_areSo_7 (by decide) (fun c7 => ?_) (fun c7 => ?_)
    · skip
      have hge := le_ge (y := nI n) rfl (by omega) (by omega) c7
      obtain rfl : p = n := by omega
      refine s_iconst (v := 1) dX0_areSo_48 rfl ?_
      exact s_ireturn .boolean dX0_areSo_49 rfl rfl (rvt hso)
    · skip
      have hlt := nle_lt (y := nI n) rfl (by omega) (by omega) c7
      obtain ⟨q1, q2, q, hq, q3⟩ := hs p hlt
      have hqc : (e (65 + 2 * p)).toNatClampNeg = q := by rw [q3]; exact nI_clamp (by omega)
      refine s_aload_n 0 dX0_areSo_10 rfl rfl ?_
      refine s_aload_n 0 dX0_areSo_11 rfl rfl ?_
      refine s_getP dX0_areSo_12 fl_X0_32 (fo_1_3.at (wk_16 w)) (wp_16_3 w) ?_
      refine s_aload_n 0 dX0_areSo_15 rfl rfl ?_
      refine s_getP dX0_areSo_16 fl_X0_60 (fo_1_10.at (wk_16 w)) (wp_16_10 w) ?_
      refine s_iload_n 1 dX0_areSo_19 rfl rfl ?_
      refine s_iald (j := p) dX0_areSo_20 (wk_33 w) (ixn (wn_33 w) (ix_nI (by omega) (by decide))) ?_
      rw [q1, q3]
      refine s_aload_n 0 dX0_areSo_21 rfl rfl ?_
      refine s_getP dX0_areSo_22 fl_X0_32 (fo_1_3.at (wk_16 w)) (wp_16_3 w) ?_
      refine s_callV_p (M2 := mX1_present) dX0_areSo_25 q619 bX1_present inX1_present.2 q621 rfl (c_present _ _ (wk_23 w)) rfl rfl (rk (wk_23 w) rfl rfl) ⟨by decide, by decide, by decide⟩ (Nat.le_of_ble_eq_true rfl) ?_
      refine s_callV_p (M2 := mX0_shareOf) dX0_areSo_28 q623 bX0_shareOf inX0_shareOf.2 qs7 rfl (c_shareOf tm q hq _) rfl rfl (rk (wk_16 w) rfl rfl) ⟨by decide, by decide, by decide⟩ (Nat.le_of_ble_eq_true rfl) ?_
      rw [share_shE rw r hq]
      refine s_aload_n 0 dX0_areSo_31 rfl rfl ?_
      refine s_getP dX0_areSo_32 fl_X0_63 (fo_1_11.at (wk_16 w)) (wp_16_11 w) ?_
      refine s_iload_n 1 dX0_areSo_35 rfl rfl ?_
      refine s_iald (j := p) dX0_areSo_36 (wk_34 w) (ixn (wn_34 w) (ix_nI (by omega) (by decide))) ?_
      rw [q2]
      refine s_icmp_eq 42 dX0_areSo_37 (by decide) (fun c37 => ?_) (fun c37 => ?_)
      · skip
        refine s_iinc (v := nI (p + 1)) (ls' := [(1, _), (0, _)]) dX0_areSo_42 rfl (nI_succ p).symm (by decide) rfl ?_
        refine s_goto 2 dX0_areSo_45 (by decide) ?_
        exact AW.lc (ih hlt (soE_t hso (by rw [hqc]; exact c37))) ⟨rfl, rfl, trivial⟩
      · skip
        refine s_iconst (v := 0) dX0_areSo_40 rfl ?_
        exact s_ireturn .boolean dX0_areSo_41 rfl rfl (rvf (soE_f (p := p) (by rw [hqc]; exact c37) hlt))
  exact AW.lc (L2 0 (Nat.zero_le _) rfl) ⟨rfl, rfl, trivial⟩
theorem kE_up {e : St} {k : Nat} {v : Int32} {q : Nat} (hk : k ≠ 10 * q) : kE (upE e k v) q = kE e q := by unfold kE; rw [upE_o (Ne.symm hk)]
theorem yE_up {e : St} {k : Nat} {v : Int32} {q : Nat} (hk : k ≠ 10 * q + 3) : yE (upE e k v) q = yE e q := by unfold yE; rw [upE_o (Ne.symm hk)]
theorem hrE_up {e : St} {k : Nat} {v : Int32} {q : Nat} (hk : k ≠ 10 * q + 4) : hrE (upE e k v) q = hrE e q := by unfold hrE; rw [upE_o (Ne.symm hk)]
/-- another debt -/
theorem RW.debt {h : AH} {t m : Nat} {e : St} {pr : Pr} (rw : RW h t m e pr) (v : Int32) : RW (sI h t 5 v) t m (upE e 61 v) pr := by
  have ht := rw.tt
  have h6 := rw.m6
  have x : Chg [t] h (sI h t 5 v) := Chg.refl.s (List.mem_singleton_self _)
  have hS : fxS [t] = true := by rcases ht with rfl | rfl <;> decide +kernel
  refine ⟨rw.w.chg x, ht, ⟨(hI_sI_ne (by omega)).trans rw.tr.1, rw.m6, fun q hq => ?_, ?_, ?_⟩, fun q hq => ?_, ?_⟩
  · obtain ⟨z1, z2, z3, z4, z5, z6⟩ := rw.tr.2.2.1 q hq
    rw [hI_sI_ne (by omega), hI_sI_ne (a := t) (b := t + 2) (by omega), hI_sI_ne (a := t) (b := t + 3) (by omega), hI_sI_ne (a := t) (b := t) (by omega), upE_o (by omega), upE_o (j := 10 * q + 3) (by omega), upE_o (j := 10 * q + 5) (by omega), yE_up (by omega), hrE_up (by omega)]
    exact ⟨z1, z2, z3, z4, z5, z6⟩
  · rw [hI_sI, upE_s]
  · rw [hI_sI_ne (by omega), upE_o (by omega)]; exact rw.tr.2.2.2.2
  · obtain ⟨z1, z2, z3, z4⟩ := rw.mo.chg rw.w x hS (by simp; omega) q hq
    rw [kE_up (by omega), upE_o (by omega), upE_o (j := 10 * q) (by omega)]
    exact ⟨z1, z2, z3, fun j hj => by rw [upE_o (by omega)]; exact z4 j hj⟩
  · exact rw.pa.chg rw.w x hS
/-- for how many debts was it so, and the least -/
def owF (f : Nat → Nat → Int32) (e : St) (m n : Nat) : Nat → Int32 × Int32
  | 0 => (0, -5)
  | k + 1 => if soE f (upE e 61 (999 - nI k)) m n = true then ((owF f e m n k).1 + 1, 999 - nI k) else owF f e m n k
def owE (pr : Pr) (m : Nat) (e : St) (b : Bool) : Int32 := if b = true then (owF (rateE pr e) e m (e 64).toNatClampNeg 1000).1 else (owF (rateE pr e) e m (e 64).toNatClampNeg 1000).2
theorem owF_1 {f : Nat → Nat → Int32} {e : St} {m n k : Nat} (c : soE f (upE e 61 (999 - nI k)) m n = true) : owF f e m n (k + 1) = ((owF f e m n k).1 + 1, 999 - nI k) := if_pos c
theorem owF_0 {f : Nat → Nat → Int32} {e : St} {m n k : Nat} (c : soE f (upE e 61 (999 - nI k)) m n = false) : owF f e m n (k + 1) = owF f e m n k := if_neg (by rw [c]; decide)
theorem dn_1 (c : Int32) (k : Nat) : c - nI k + (-1) = c - nI (k + 1) := by
  rw [nI_succ, Int32.sub_eq_add_neg, Int32.sub_eq_add_neg c, Int32.neg_add, Int32.add_assoc, Int32.sub_eq_add_neg (-nI k)]
theorem dn_nn {c k : Nat} (hk : k ≤ c) (hc : c < 100000) : ¬ (nI c - nI k < 0) := by
  rw [pk_sub hk]
  exact nI_pos (by omega)
theorem dn_ng {c : Nat} (hc : c < 100000) : nI c - nI (c + 1) < 0 := by
  have e : nI c - nI (c + 1) = -1 := by
    rw [← dn_1, Int32.sub_self]
    rfl
  rw [e]
  decide
theorem upE_2 {e : St} {k : Nat} {v w : Int32} : upE (upE e k v) k w = upE e k w := by
  funext j
  unfold upE
  by_cases c : j = k
  · rw [if_pos c, if_pos c]
  · rw [if_neg c, if_neg c, if_neg c]
theorem c_owing {h : AH} {m : Nat} {e : St} {pr : Pr} (rw : RW h 19 m e pr) {n : Nat} (hn : n ≤ 5) (he : e 64 = nI n) (hc : hI h 16 16 = nI n) (hs : ∀ k, k < n → hI h 33 k = e (65 + 2 * k) ∧ hI h 34 k = e (66 + 2 * k) ∧ ∃ q, q < m ∧ e (65 + 2 * k) = nI q) (b : Bool) : Con mX0_owing 33 0 0 [.ref 16, .int (b2i b)] h (retG (some (.int (owE pr m e b))) (fun h' => Chg S23 h h')) nox := by
  have w := rw.w
  have tm := rw.tm
  have h6 := rw.m6
  have hmm := rw.tr.1
  refine Con.of rfl rfl (Nat.le_of_ble_eq_true rfl) ?_
  refine s_aload_n 0 dX0_owing_0 rfl rfl ?_
  refine s_iconst (v := 0) dX0_owing_1 rfl ?_
  refine s_callV (M2 := mX0_tries) dX0_owing_2 q660 bX0_tries inX0_tries.2 qs14 rfl (c_tries rw 0 (by decide)) rfl rfl (rk (wk_16 w) rfl rfl) ⟨by decide, by decide, by decide⟩ (Nat.le_of_ble_eq_true rfl) (fun v1 h1 z1 => ?_) (fun _ _ z => z.elim)
  obtain ⟨rfl, x0, rw0⟩ := z1
  change RW h1 23 m e pr at rw0
  refine s_aload_n 0 dX0_owing_5 rfl rfl ?_
  refine s_aload_n 0 dX0_owing_6 rfl rfl ?_
  refine s_getP dX0_owing_7 fl_X0_32 (fo_1_3.at (wk_16 rw0.w)) (wp_16_3 rw0.w) ?_
  refine s_callV (M2 := mX0_looksForRates) dX0_owing_10 q497 bX0_looksForRates inX0_looksForRates.2 qs3 rfl (c_looks rw0) rfl rfl (rk (wk_16 rw0.w) rfl rfl) ⟨by decide, by decide, by decide⟩ (Nat.le_of_ble_eq_true rfl) (fun v2 h2 z2 => ?_) (fun _ _ z => z.elim)
  obtain ⟨rfl, x2, r2⟩ := z2
  have rw2 := rw0.at40 x2
  have x02 := x0.trans (x2.mono (S' := S23) (by decide))
  refine s_iconst (v := 0) dX0_owing_13 rfl ?_
  refine s_istore_n (ls' := [(2, _), (0, _), (1, _)]) 2 dX0_owing_14 rfl (by decide) rfl ?_
  refine s_bipush (v := -5) dX0_owing_15 rfl ?_
  refine s_istore_n (ls' := [(3, _), (2, _), (0, _), (1, _)]) 3 dX0_owing_17 rfl (by decide) rfl ?_
  refine s_sipush (v := 999) dX0_owing_18 rfl ?_
  refine s_istore (ls' := [(4, _), (3, _), (2, _), (0, _), (1, _)]) dX0_owing_21 (by decide) rfl ?_
  have L23 : ∀ p : Nat, p ≤ 1000 → ∀ h3 : AH, Chg S23 h h3 → (∃ v, RW h3 23 m (upE e 61 v) pr) → RT h3 m (rateE pr e) → AW mX0_owing 33 (retG (some (.int (owE pr m e b))) (fun h' => Chg S23 h h')) nox 0 0 23 [(4, .int (999 - nI p)), (2, .int (owF (rateE pr e) e m n p).1), (3, .int (owF (rateE pr e) e m n p).2), (0, .ref 16), (1, .int (b2i b))] [] h3 := by
    refine for_up (fun p hpp ih => ?_)
    intro h3 x3 ⟨v3, rw3⟩ r3
    have w := rw3.w
    refine s_iload dX0_owing_23 rfl ?_
    refine s_if_lt 59 dX0_owing_25 (by decide) (fun c25 => ?_) (fun c25 => ?_)
    · skip
      have hge : p = 1000 := by
        by_cases y : p ≤ 999
        · exact absurd c25 (dn_nn (c := 999) y (by decide))
        · omega
      subst hge
      refine s_iload_n 1 dX0_owing_59 rfl rfl ?_
      refine s_ifeq_b 67 dX0_owing_60 (by decide) (fun c60 => ?_) (fun c60 => ?_)
      · skip
        refine s_iload_n 3 dX0_owing_67 rfl rfl ?_
        exact s_ireturn .int dX0_owing_68 rfl rfl (rg (by unfold owE; rw [he, nI_clamp (by omega), if_neg (by rw [c60]; decide)]) x3)
      · skip
        refine s_iload_n 2 dX0_owing_63 rfl rfl ?_
        refine s_goto 68 dX0_owing_64 (by decide) ?_
        exact s_ireturn .int dX0_owing_68 rfl rfl (rg (by unfold owE; rw [he, nI_clamp (by omega), if_pos c60]) x3)
    · skip
      have hlt : p < 1000 := by
        by_cases y : p = 1000
        · subst y; exact absurd (dn_ng (c := 999) (by decide)) c25
        · omega
      refine s_aload_n 0 dX0_owing_28 rfl rfl ?_
      refine s_getP dX0_owing_29 fl_X0_32 (fo_1_3.at (wk_16 w)) (wp_16_3 w) ?_
      refine s_iload dX0_owing_32 rfl ?_
      refine s_putJ dX0_owing_34 fl_X0_213 (fo_2_5.at (wk_23 w)) (Nat.le_of_ble_eq_true rfl) (Or.inl (fn_at (wk_23 w) rfl)) (ty_at (wk_23 w) rfl) ?_
      have rw1 := RW.debt rw3 (999 - nI p)
      rw [upE_2] at rw1
      have r1 := RT.s (a := 23) (j := 5) (v := 999 - nI p) r3 (by decide)
      have x4 := x3.s (a := 23) (f := 5) (v := 999 - nI p) (by decide)
      have hc1 := (x4.i (a := 16) (by decide) 16).trans hc
      have hs1 : ∀ k, k < n → hI (sI h3 23 5 (999 - nI p)) 33 k = upE e 61 (999 - nI p) (65 + 2 * k) ∧ hI (sI h3 23 5 (999 - nI p)) 34 k = upE e 61 (999 - nI p) (66 + 2 * k) ∧ ∃ q, q < m ∧ upE e 61 (999 - nI p) (65 + 2 * k) = nI q := fun k hk => by
        rw [x4.i (a := 33) (by decide), x4.i (a := 34) (by decide), upE_o (by omega), upE_o (j := 66 + 2 * k) (by omega)]
        exact hs k hk
      refine s_aload_n 0 dX0_owing_37 rfl rfl ?_
      refine s_callV_p (M2 := mX0_areSo) dX0_owing_38 q1056 bX0_areSo inX0_areSo.2 qs35 rfl (c_areSo rw1 r1 hn hc1 hs1) rfl rfl (rk (wk_16 w) rfl rfl) ⟨by decide, by decide, by decide⟩ (Nat.le_of_ble_eq_true rfl) ?_
      refine s_ifne_b 47 dX0_owing_41 (by decide) (fun c41 => ?_) (fun c41 => ?_)
      · skip
        refine s_iinc (v := _ + (1)) (ls' := [(2, _), (4, _), (3, _), (0, _), (1, _)]) dX0_owing_47 rfl rfl (by decide) rfl ?_
        refine s_iload dX0_owing_50 rfl ?_
        refine s_istore_n (ls' := [(3, _), (2, _), (4, _), (0, _), (1, _)]) 3 dX0_owing_52 rfl (by decide) rfl ?_
        refine s_iinc (v := _ + (-1)) (ls' := [(4, _), (3, _), (2, _), (0, _), (1, _)]) dX0_owing_53 rfl rfl (by decide) rfl ?_
        refine s_goto 23 dX0_owing_56 (by decide) ?_
        exact AW.lc (ih hlt _ x4 ⟨_, rw1⟩ r1) ⟨(congrArg (fun x => some (Value.int x)) (dn_1 999 p)), (congrArg (fun x : Int32 × Int32 => some (Value.int x.1)) (owF_1 c41).symm), (congrArg (fun x : Int32 × Int32 => some (Value.int x.2)) (owF_1 c41).symm), rfl, rfl, trivial⟩
      · skip
        refine s_goto 53 dX0_owing_44 (by decide) ?_
        refine s_iinc (v := _ + (-1)) (ls' := [(4, _), (2, _), (3, _), (0, _), (1, _)]) dX0_owing_53 rfl rfl (by decide) rfl ?_
        refine s_goto 23 dX0_owing_56 (by decide) ?_
        exact AW.lc (ih hlt _ x4 ⟨_, rw1⟩ r1) ⟨(congrArg (fun x => some (Value.int x)) (dn_1 999 p)), (congrArg (fun x : Int32 × Int32 => some (Value.int x.1)) (owF_0 c41).symm), (congrArg (fun x : Int32 × Int32 => some (Value.int x.2)) (owF_0 c41).symm), rfl, rfl, trivial⟩
  exact AW.lc (L23 0 (Nat.zero_le _) _ x02 ⟨e 61, by rw [show upE e 61 (e 61) = e from by funext j; unfold upE; by_cases c : j = 61; (rw [if_pos c, c]); rw [if_neg c]]; exact rw2⟩ r2) ⟨(congrArg (fun x => some (Value.int x)) (show (999 : Int32) = 999 - nI 0 from rfl)), rfl, rfl, rfl, rfl, trivial⟩
