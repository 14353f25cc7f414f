/-! the component: plans, what is told, books -/
set_option maxRecDepth 100000
theorem RW.gone {h : AH} {t m : Nat} {e : St} {pr : Pr} (rw : RW h t m e pr) {p : Nat} {g v : Int32} (hp : p < m) (hg : ∀ q, q < m → bs g q = !hrE (upE e (10 * p + 4) v) q) : RW (sI h t 4 g) t m (upE e (10 * p + 4) v) pr := by
  have ht := rw.tt
  have h6 := rw.m6
  have x : Chg [t] h (sI h t 4 g) := Chg.refl.s (List.mem_singleton_self _)
  have hS : fxS [t] = true := by rcases ht with rfl | rfl <;> decide +kernel
  refine ⟨rw.w.chg x, ht, ⟨(hI_sI_ne (by omega)).trans rw.tr.1, rw.m6, fun q hq => ?_, ?_, ?_⟩, fun q hq => ?_, ?_⟩
  · obtain ⟨z1, z2, z3, z4, z5, z6⟩ := rw.tr.2.2.1 q hq
    rw [hI_sI_ne (by omega), hI_sI_ne (a := t) (b := t + 2) (by omega), hI_sI_ne (a := t) (b := t + 3) (by omega), hI_sI, upE_o (by omega), upE_o (j := 10 * q + 3) (by omega), upE_o (j := 10 * q + 5) (by omega), yE_up (by omega)]
    exact ⟨z1, z2, z3, z4, z5, hg q hq⟩
  · rw [hI_sI_ne (by omega), upE_o (by omega)]; exact rw.tr.2.2.2.1
  · rw [hI_sI_ne (by omega), upE_o (by omega)]; exact rw.tr.2.2.2.2
  · obtain ⟨z1, z2, z3, z4⟩ := rw.mo.chg rw.w x hS (by simp; omega) q hq
    rw [kE_up (by omega), upE_o (by omega), upE_o (j := 10 * q) (by omega)]
    exact ⟨z1, z2, z3, fun j hj => by rw [upE_o (by omega)]; exact z4 j hj⟩
  · exact rw.pa.chg rw.w x hS
theorem hrE_s {e : St} {p : Nat} {v : Int32} : hrE (upE e (10 * p + 4) v) p = decide (v = 0) := by unfold hrE; rw [upE_s]
theorem bs_set {g : Int32} {e : St} {m p : Nat} (h6 : m ≤ 6) (hp : p < m) (hg : ∀ q, q < m → bs g q = !hrE e q) : ∀ q, q < m → bs (g ||| ((1 : Int32) <<< (nI p &&& 31))) q = !hrE (upE e (10 * p + 4) 1) q := by
  intro q hq
  rw [bs_or _ _ (by omega), bs_one (by omega) (by omega), hg q hq]
  by_cases c : q = p
  · subst c; rw [hrE_s]; simp
  · rw [hrE_up (by omega)]; simp [c]
theorem bs_clr {g : Int32} {e : St} {m p : Nat} (h6 : m ≤ 6) (hp : p < m) (hg : ∀ q, q < m → bs g q = !hrE e q) : ∀ q, q < m → bs (g &&& (((1 : Int32) <<< (nI p &&& 31)) ^^^ (-1))) q = !hrE (upE e (10 * p + 4) 0) q := by
  intro q hq
  rw [bs_and _ _ (by omega), bs_not _ (by omega), bs_one (by omega) (by omega), hg q hq]
  by_cases c : q = p
  · subst c; rw [hrE_s]; simp
  · rw [hrE_up (by omega)]; simp [c]
theorem TR.gn {h : AH} {t m : Nat} {e : St} (z : TR h t m e) : ∀ q, q < m → bs (hI h t 4) q = !hrE e q := fun q hq => (z.2.2.1 q hq).2.2.2.2.2
/-- a step of the plan -/
def doE (pr : Pr) (m : Nat) (e : St) (w : Nat) (y : Int32) : St := if w = 0 then (dayE pr m e).1 else if w = 1 then upE e (10 * y.toNatClampNeg + 4) 1 else if w = 2 then upE e (10 * y.toNatClampNeg + 4) 0 else upE e (10 * y.toNatClampNeg + 3) 0
def plF (pr : Pr) (m : Nat) (e : St) : Nat → St
  | 0 => e
  | k + 1 => doE pr m (plF pr m e k) (e (76 + 2 * k)).toNatClampNeg (e (77 + 2 * k))
def enE (pr : Pr) (m : Nat) (e : St) (what : Int32) : Int32 := if inB what 0 1 = true then (if what = 0 then sumF (plF pr m e (e 75).toNatClampNeg) 5 m else sumF (plF pr m e (e 75).toNatClampNeg) 3 m) else -1
/-- the plan -/
def PLr (h : AH) (pw pm : Nat) (c : Int32) (m : Nat) (e : St) : Prop := ∃ n, n ≤ 8 ∧ c = nI n ∧ e 75 = nI n ∧ ∀ k, k < n → hI h pw k = e (76 + 2 * k) ∧ hI h pm k = e (77 + 2 * k) ∧ ∃ w, w ≤ 3 ∧ e (76 + 2 * k) = nI w ∧ (0 < w → ∃ q, q < m ∧ e (77 + 2 * k) = nI q)
/-- the book -/
def BKr (h : AH) (bm bd : Nat) (c : Int32) (m : Nat) (e : St) : Prop := ∃ n, n ≤ 8 ∧ c = nI n ∧ e 92 = nI n ∧ ∀ k, k < n → hI h bm k = e (93 + 2 * k) ∧ hI h bd k = e (94 + 2 * k) ∧ ∃ q, q < m ∧ e (93 + 2 * k) = nI q
theorem c_does {h : AH} {m : Nat} {e : St} {pr : Pr} (rw : RW h 23 m e pr) (w : Nat) (hw3 : w ≤ 3) (y : Int32) (hy : 0 < w → ∃ q, q < m ∧ y = nI q) : Con mX0_does 33 0 0 [.ref 16, .int (nI w), .int y] h (retG none (fun h' => Chg S23 h h' ∧ RW h' 23 m (doE pr m e w y) pr)) nox := by
  have ww := rw.w
  have tm := rw.tm
  have h6 := rw.m6
  have hmm := rw.tr.1
  refine Con.of rfl rfl (Nat.le_of_ble_eq_true rfl) ?_
  refine s_iload_n 1 dX0_does_0 rfl rfl ?_
  rcases (by omega : w = 0 ∨ w = 1 ∨ w = 2 ∨ w = 3) with rfl | rfl | rfl | rfl
  · refine s_tableIn 28 dX0_does_1 (by decide) (by decide) rfl (by decide) ?_
    refine s_aload_n 0 dX0_does_28 rfl rfl ?_
    refine s_aload_n 0 dX0_does_29 rfl rfl ?_
    refine s_getP dX0_does_30 fl_X0_32 (fo_1_3.at (wk_16 ww)) (wp_16_3 ww) ?_
    refine s_callV (M2 := mX0_goes) dX0_does_33 q489 bX0_goes inX0_goes.2 qs1 rfl (c_goes rw) rfl rfl (rk (wk_16 ww) rfl rfl) ⟨by decide, by decide, by decide⟩ (Nat.le_of_ble_eq_true rfl) (fun v2 h2 z2 => ?_) (fun _ _ z => z.elim)
    obtain ⟨rfl, x2, rw2⟩ := z2
    refine s_pop dX0_does_36 rfl ?_
    refine s_goto 88 dX0_does_37 (by decide) ?_
    exact s_return dX0_does_88 rfl ⟨rfl, x2.mono (by decide), rw2⟩
  · refine s_tableIn 40 dX0_does_1 (by decide) (by decide) rfl (by decide) ?_
    obtain ⟨q, hq, rfl⟩ := hy (by decide)
    have hqc : (nI q).toNatClampNeg = q := nI_clamp (by omega)
    refine s_aload_n 0 dX0_does_40 rfl rfl ?_
    refine s_getP dX0_does_41 fl_X0_32 (fo_1_3.at (wk_16 ww)) (wp_16_3 ww) ?_
    refine s_dup dX0_does_44 rfl ?_
    refine s_getI dX0_does_45 fl_X0_159 (fo_2_4.at (wk_23 ww)) ?_
    refine s_iconst (v := 1) dX0_does_48 rfl ?_
    refine s_iload_n 2 dX0_does_49 rfl rfl ?_
    refine s_ishl dX0_does_50 ?_
    refine s_ior dX0_does_51 ?_
    refine s_putJ dX0_does_52 fl_X0_159 (fo_2_4.at (wk_23 ww)) (Nat.le_of_ble_eq_true rfl) (Or.inl (fn_at (wk_23 ww) rfl)) (ty_at (wk_23 ww) rfl) ?_
    refine s_goto 88 dX0_does_55 (by decide) ?_
    exact s_return dX0_does_88 rfl ⟨rfl, Chg.refl.s (by decide), by show RW _ 23 m (upE e (10 * (nI q).toNatClampNeg + 4) 1) pr; rw [hqc]; exact rw.gone hq (bs_set h6 hq rw.tr.gn)⟩
  · refine s_tableIn 58 dX0_does_1 (by decide) (by decide) rfl (by decide) ?_
    obtain ⟨q, hq, rfl⟩ := hy (by decide)
    have hqc : (nI q).toNatClampNeg = q := nI_clamp (by omega)
    refine s_aload_n 0 dX0_does_58 rfl rfl ?_
    refine s_getP dX0_does_59 fl_X0_32 (fo_1_3.at (wk_16 ww)) (wp_16_3 ww) ?_
    refine s_dup dX0_does_62 rfl ?_
    refine s_getI dX0_does_63 fl_X0_159 (fo_2_4.at (wk_23 ww)) ?_
    refine s_iconst (v := 1) dX0_does_66 rfl ?_
    refine s_iload_n 2 dX0_does_67 rfl rfl ?_
    refine s_ishl dX0_does_68 ?_
    refine s_iconst (v := -1) dX0_does_69 rfl ?_
    refine s_ixor dX0_does_70 ?_
    refine s_iand dX0_does_71 ?_
    refine s_putJ dX0_does_72 fl_X0_159 (fo_2_4.at (wk_23 ww)) (Nat.le_of_ble_eq_true rfl) (Or.inl (fn_at (wk_23 ww) rfl)) (ty_at (wk_23 ww) rfl) ?_
    refine s_goto 88 dX0_does_75 (by decide) ?_
    exact s_return dX0_does_88 rfl ⟨rfl, Chg.refl.s (by decide), by show RW _ 23 m (upE e (10 * (nI q).toNatClampNeg + 4) 0) pr; rw [hqc]; exact rw.gone hq (bs_clr h6 hq rw.tr.gn)⟩
  · refine s_tableOut 78 dX0_does_1 (by decide) (by decide) ?_
    obtain ⟨q, hq, rfl⟩ := hy (by decide)
    have hqc : (nI q).toNatClampNeg = q := nI_clamp (by omega)
    refine s_aload_n 0 dX0_does_78 rfl rfl ?_
    refine s_getP dX0_does_79 fl_X0_32 (fo_1_3.at (wk_16 ww)) (wp_16_3 ww) ?_
    refine s_getP dX0_does_82 fl_X0_153 (fo_2_1.at (wk_23 ww)) (wp_23_1 ww) ?_
    refine s_iload_n 2 dX0_does_85 rfl rfl ?_
    refine s_iconst (v := 0) dX0_does_86 rfl ?_
    refine s_bast (j := q) dX0_does_87 (wk_25 ww) (Nat.le_of_ble_eq_true rfl) (ixn (wn_25 ww) (ix_nI (by omega) (by decide))) ?_
    
    exact s_return dX0_does_88 rfl ⟨rfl, Chg.refl.s (by decide), by show RW _ 23 m (upE e (10 * (nI q).toNatClampNeg + 3) 0) pr; rw [hqc]; exact rw.yard hq (by decide : 0 < 10)⟩
theorem c_ends {h : AH} {m : Nat} {e : St} {pr : Pr} (rw : RW h 19 m e pr) {n : Nat} (hn : n ≤ 8) (hc : hI h 16 17 = nI n) (he : e 75 = nI n) (hs : ∀ k, k < n → hI h 35 k = e (76 + 2 * k) ∧ hI h 36 k = e (77 + 2 * k) ∧ ∃ w, w ≤ 3 ∧ e (76 + 2 * k) = nI w ∧ (0 < w → ∃ q, q < m ∧ e (77 + 2 * k) = nI q)) (what : Int32) : Con mX0_ends 34 0 0 [.ref 16, .int what] h (retG (some (.int (enE pr m e what))) (fun h' => Chg S23 h h')) nox := by
  have w := rw.w
  have tm := rw.tm
  have h6 := rw.m6
  have hmm := rw.tr.1
  refine Con.of rfl rfl (Nat.le_of_ble_eq_true rfl) ?_
  refine s_iload_n 1 dX0_ends_0 rfl rfl ?_
  refine s_iconst (v := 0) dX0_ends_1 rfl ?_
  refine s_iconst (v := 1) dX0_ends_2 rfl ?_
  refine s_callS_p (M2 := mX0_in) dX0_ends_3 q373 stX0_in rfl (c_in _ _ _ _) rfl rfl ⟨by decide, by decide, by decide⟩ (Nat.le_of_ble_eq_true rfl) ?_
  refine s_ifne_b 11 dX0_ends_6 (by decide) (fun c6 => ?_) (fun c6 => ?_)
  · skip
    refine s_aload_n 0 dX0_ends_11 rfl rfl ?_
    refine s_iconst (v := 0) dX0_ends_12 rfl ?_
    refine s_callV (M2 := mX0_tries) dX0_ends_13 q660 bX0_tries inX0_tries.2 qs14 rfl (c_tries rw 0 (by decide)) rfl rfl (rk (wk_16 w) rfl rfl) ⟨by decide, by decide, by decide⟩ (Nat.le_of_ble_eq_true rfl) (fun v1 h1 z1 => ?_) (fun _ _ z => z.elim)
    obtain ⟨rfl, x0, rw0⟩ := z1
    change RW h1 23 m e pr at rw0
    refine s_iconst (v := 0) dX0_ends_16 rfl ?_
    refine s_istore_n (ls' := [(2, _), (0, _), (1, _)]) 2 dX0_ends_17 rfl (by decide) rfl ?_
    have L18 : ∀ k : Nat, k ≤ n → ∀ h2 : AH, Chg S23 h h2 → RW h2 23 m (plF pr m e k) pr → AW mX0_ends 34 (retG (some (.int (enE pr m e what))) (fun h' => Chg S23 h h')) nox 0 0 18 [(2, .int (nI k)), (0, .ref 16), (1, .int what)] [] h2 := by
      refine for_up (fun k hpk ih => ?_)
      intro h2 x1 rw1
      have w := rw1.w
      refine s_iload_n 2 dX0_ends_18 rfl rfl ?_
      refine s_aload_n 0 dX0_ends_19 rfl rfl ?_
      refine s_getI dX0_ends_20 fl_X0_330 (fo_1_17.at (wk_16 w)) ?_
      rw [(x1.i (by decide) 17).trans hc]
      refine s_icmp_ge 48 dX0_ends_23 (by decide) (fun c23 => ?_) (fun c23 => ?_)
      · skip
        have hge := le_ge (y := nI n) rfl (by omega) (by omega) c23
        obtain rfl : k = n := by omega
        refine s_iload_n 1 dX0_ends_48 rfl rfl ?_
        refine s_if_ne 62 dX0_ends_49 (by decide) (fun c49 => ?_) (fun c49 => ?_)
        · skip
          refine s_aload_n 0 dX0_ends_62 rfl rfl ?_
          refine s_getP dX0_ends_63 fl_X0_32 (fo_1_3.at (wk_16 w)) (wp_16_3 w) ?_
          refine s_callV_p (M2 := mX1_allYards) dX0_ends_66 q1109 bX1_allYards inX1_allYards.2 q1111 rfl (c_allYards rw1) rfl rfl (rk (wk_23 w) rfl rfl) ⟨by decide, by decide, by decide⟩ (Nat.le_of_ble_eq_true rfl) ?_
          exact s_ireturn .int dX0_ends_69 rfl rfl (rg (by unfold enE; rw [if_pos c6, if_neg c49, he, nI_clamp (by omega)]) x1)
        · skip
          refine s_aload_n 0 dX0_ends_52 rfl rfl ?_
          refine s_getP dX0_ends_53 fl_X0_32 (fo_1_3.at (wk_16 w)) (wp_16_3 w) ?_
          refine s_callV_p (M2 := mX1_allSums) dX0_ends_56 q1105 bX1_allSums inX1_allSums.2 q1107 rfl (c_allSums rw1) rfl rfl (rk (wk_23 w) rfl rfl) ⟨by decide, by decide, by decide⟩ (Nat.le_of_ble_eq_true rfl) ?_
          refine s_goto 69 dX0_ends_59 (by decide) ?_
          exact s_ireturn .int dX0_ends_69 rfl rfl (rg (by unfold enE; rw [if_pos c6, if_pos c49, he, nI_clamp (by omega)]) x1)
      · skip
        have hlt := nle_lt (y := nI n) rfl (by omega) (by omega) c23
        obtain ⟨k1, k2, w0, w3, k3, k4⟩ := hs k hlt
        refine s_aload_n 0 dX0_ends_26 rfl rfl ?_
        refine s_aload_n 0 dX0_ends_27 rfl rfl ?_
        refine s_getP dX0_ends_28 fl_X0_66 (fo_1_12.at (wk_16 w)) (wp_16_12 w) ?_
        refine s_iload_n 2 dX0_ends_31 rfl rfl ?_
        refine s_iald (j := k) dX0_ends_32 (wk_35 w) (ixn (wn_35 w) (ix_nI (by omega) (by decide))) ?_
        rw [(x1.i (by decide) k).trans (k1.trans k3)]
        refine s_aload_n 0 dX0_ends_33 rfl rfl ?_
        refine s_getP dX0_ends_34 fl_X0_69 (fo_1_13.at (wk_16 w)) (wp_16_13 w) ?_
        refine s_iload_n 2 dX0_ends_37 rfl rfl ?_
        refine s_iald (j := k) dX0_ends_38 (wk_36 w) (ixn (wn_36 w) (ix_nI (by omega) (by decide))) ?_
        rw [(x1.i (by decide) k).trans k2]
        refine s_callV (M2 := mX0_does) dX0_ends_39 q1101 bX0_does inX0_does.2 qs36 rfl (c_does rw1 w0 w3 (e (77 + 2 * k)) k4) rfl rfl (rk (wk_16 w) rfl rfl) ⟨by decide, by decide, by decide⟩ (Nat.le_of_ble_eq_true rfl) (fun v2 h3 z2 => ?_) (fun _ _ z => z.elim)
        obtain ⟨rfl, x3, rw3⟩ := z2
        refine s_iinc (v := nI (k + 1)) (ls' := [(2, _), (0, _), (1, _)]) dX0_ends_42 rfl (nI_succ k).symm (by decide) rfl ?_
        refine s_goto 18 dX0_ends_45 (by decide) ?_
        exact AW.lc (ih hlt _ (x1.trans x3) (by rw [show plF pr m e (k + 1) = doE pr m (plF pr m e k) w0 (e (77 + 2 * k)) from by show doE _ _ _ (e (76 + 2 * k)).toNatClampNeg _ = _; rw [k3, nI_clamp (by omega)]]; exact rw3)) ⟨rfl, rfl, rfl, trivial⟩
    exact AW.lc (L18 0 (Nat.zero_le _) _ x0 rw0) ⟨rfl, rfl, rfl, trivial⟩
  · skip
    refine s_iconst (v := -1) dX0_ends_9 rfl ?_
    exact s_ireturn .int dX0_ends_10 rfl rfl (rg (by unfold enE; rw [if_neg (by rw [c6]; decide)]) Chg.refl)
def loF (e : St) : Nat → Nat → Int32
  | 0, _ => -5
  | f + 1, k => if e (10 * (e (93 + 2 * k)).toNatClampNeg + 3) = e (94 + 2 * k) then loF e f (k + 1) else nI k
def loK (e : St) : Int32 := loF e (e 92).toNatClampNeg 0
theorem c_looked {h : AH} {m : Nat} {e : St} {pr : Pr} (rw : RW h 19 m e pr) {n : Nat} (hn : n ≤ 8) (hc : hI h 16 18 = nI n) (he : e 92 = nI n) (hs : ∀ k, k < n → hI h 37 k = e (93 + 2 * k) ∧ hI h 38 k = e (94 + 2 * k) ∧ ∃ q, q < m ∧ e (93 + 2 * k) = nI q) : Con mX0_looked 0 0 0 [.ref 16] h (retV (.int (loK e)) h) nox := by
  have w := rw.w
  have tm := rw.tm
  have h6 := rw.m6
  have hmm := rw.tr.1
  have h0 : loK e = loF e (n - 0) 0 := by unfold loK; rw [he, nI_clamp (by omega)]; rfl
  refine Con.of rfl rfl (Nat.le_of_ble_eq_true rfl) ?_
  refine s_iconst (v := 0) dX0_looked_0 rfl ?_
  refine s_istore_n (ls' := [(1, _), (0, _)]) 1 dX0_looked_1 rfl (by decide) rfl ?_
  have L2 : ∀ k : Nat, k ≤ n → loK e = loF e (n - k) k → AW mX0_looked 0 (retV (.int (loK e)) h) nox 0 0 2 [(1, .int (nI k)), (0, .ref 16)] [] h := by
    refine for_up (fun k hpk ih => ?_)
    intro hl
    refine s_iload_n 1 dX0_looked_2 rfl rfl ?_
    refine s_aload_n 0 dX0_looked_3 rfl rfl ?_
    refine s_getI dX0_looked_4 fl_X0_343 (fo_1_18.at (wk_16 w)) ?_
    rw [hc]
    refine s_icmp_ge 41 dX0_looked_7 (by decide) (fun c7 => ?_) (fun c7 => ?_)
    · skip
      have hge := le_ge (y := nI n) rfl (by omega) (by omega) c7
      obtain rfl : k = n := by omega
      refine s_bipush (v := -5) dX0_looked_41 rfl ?_
      exact s_ireturn .int dX0_looked_43 rfl rfl (rve (by rw [hl, Nat.sub_self]; rfl))
    · skip
      have hlt := nle_lt (y := nI n) rfl (by omega) (by omega) c7
      obtain ⟨k1, k2, q, hq, k3⟩ := hs k hlt
      have hqc : (e (93 + 2 * k)).toNatClampNeg = q := by rw [k3]; exact nI_clamp (by omega)
      have hstep : n - k = (n - (k + 1)) + 1 := by omega
      refine s_aload_n 0 dX0_looked_10 rfl rfl ?_
      refine s_getP dX0_looked_11 fl_X0_28 (fo_1_2.at (wk_16 w)) (wp_16_2 w) ?_
      refine s_getP dX0_looked_14 fl_X0_153 (fo_2_1.at (wk_19 w)) (wp_19_1 w) ?_
      refine s_aload_n 0 dX0_looked_17 rfl rfl ?_
      refine s_getP dX0_looked_18 fl_X0_72 (fo_1_14.at (wk_16 w)) (wp_16_14 w) ?_
      refine s_iload_n 1 dX0_looked_21 rfl rfl ?_
      refine s_iald (j := k) dX0_looked_22 (wk_37 w) (ixn (wn_37 w) (ix_nI (by omega) (by decide))) ?_
      rw [k1, k3]
      refine s_bald (j := q) dX0_looked_23 (wk_21 w) (ixn (wn_21 w) (ix_nI (by omega) (by decide))) ?_
      rw [(rw.tr.2.2.1 q hq).2.1, ← (rw.tr.2.2.1 q hq).2.2.1]
      refine s_aload_n 0 dX0_looked_24 rfl rfl ?_
      refine s_getP dX0_looked_25 fl_X0_75 (fo_1_15.at (wk_16 w)) (wp_16_15 w) ?_
      refine s_iload_n 1 dX0_looked_28 rfl rfl ?_
      refine s_iald (j := k) dX0_looked_29 (wk_38 w) (ixn (wn_38 w) (ix_nI (by omega) (by decide))) ?_
      rw [k2]
      refine s_icmp_eq 35 dX0_looked_30 (by decide) (fun c30 => ?_) (fun c30 => ?_)
      · skip
        refine s_iinc (v := nI (k + 1)) (ls' := [(1, _), (0, _)]) dX0_looked_35 rfl (nI_succ k).symm (by decide) rfl ?_
        refine s_goto 2 dX0_looked_38 (by decide) ?_
        exact AW.lc (ih hlt (by rw [hl, hstep]; exact if_pos (by rw [hqc]; exact c30))) ⟨rfl, rfl, trivial⟩
      · skip
        refine s_iload_n 1 dX0_looked_33 rfl rfl ?_
        exact s_ireturn .int dX0_looked_34 rfl rfl (rve (by rw [hl, hstep]; exact if_neg (by rw [hqc]; exact c30)))
  exact AW.lc (L2 0 (Nat.zero_le _) h0) ⟨rfl, rfl, trivial⟩
theorem bs_one2 {q p : Nat} (hq : q < 10) (hp : p < 32) : bs ((1 : Int32) <<< (nI q &&& 31)) p = decide (p = q) := by
  rw [bsL _ p (by omega)]
  have H : ∀ q, q < 10 → ∀ p, p < 32 → ((1 : Int32) <<< (Int32.ofNat q &&& 31)).toBitVec.getLsbD p = decide (p = q) := by decide
  exact H q hq p hp
theorem bs_ext {x y : Int32} (hxy : ∀ i, i < 32 → bs x i = bs y i) : x = y := by
  apply Int32.toBitVec_inj.mp
  apply BitVec.eq_of_getLsbD_eq
  intro i hi
  rw [← bsL _ i hi, ← bsL _ i hi]
  exact hxy i hi
/-- who is away, as bits -/
def awB (e : St) : Nat → Int32
  | 0 => 0
  | n + 1 => if hrE e n = true then awB e n ||| 0 else awB e n ||| ((1 : Int32) <<< (nI n &&& 31))
theorem bs_0 {i : Nat} (hi : i < 32) : bs 0 i = false := by
  have H : ∀ i, i < 32 → bs 0 i = false := by decide
  exact H i hi
theorem bs_awB {e : St} : ∀ {n : Nat}, n ≤ 6 → ∀ i, i < 32 → bs (awB e n) i = (decide (i < n) && !hrE e i)
  | 0, _, i, hi => by rw [show awB e 0 = 0 from rfl, bs_0 hi]; simp
  | n + 1, hn, i, hi => by
    have ih := bs_awB (e := e) (n := n) (by omega) i hi
    by_cases c : hrE e n = true
    · rw [show awB e (n + 1) = awB e n ||| 0 from if_pos c, bs_or _ _ hi, bs_0 hi, ih]
      by_cases y : i = n
      · subst y; simp [c]
      · have : (i < n + 1) = (i < n) := by apply propext; omega
        simp [this]
    · rw [show awB e (n + 1) = awB e n ||| ((1 : Int32) <<< (nI n &&& 31)) from if_neg c, bs_or _ _ hi, bs_one2 (by omega) hi, ih]
      by_cases y : i = n
      · subst y; simp [c]
      · have : (i < n + 1) = (i < n) := by apply propext; omega
        simp [this, y]
def GO (h : AH) (t m : Nat) : Prop := ∀ i, m ≤ i → i < 32 → bs (hI h t 4) i = false
theorem gone_aw {h : AH} {t m : Nat} {e : St} (z : TR h t m e) (g : GO h t m) : hI h t 4 = awB e m := by
  have h6 := z.2.1
  apply bs_ext
  intro i hi
  rw [bs_awB h6 i hi]
  by_cases c : i < m
  · rw [z.gn i c]; simp [c]
  · rw [g i (by omega) hi]; simp [c]
def toE (pr : Pr) (m : Nat) (e : St) (what : Int32) : Int32 := if what = 0 then e 62 else if what = 1 then pr.1 else if what = 2 then e 61 else if what = 3 then awB e m else if what = 4 then stE pr m e else if what = 5 then gnE pr m e m else if what = 6 then owE pr m e true else if what = 7 then owE pr m e false else -1
theorem c_told {h : AH} {m : Nat} {e : St} {pr : Pr} (rw : RW h 19 m e pr) {n : Nat} (hn : n ≤ 5) (he : e 64 = nI n) (hc : hI h 16 16 = nI n) (hs : ∀ k, k < n → hI h 33 k = e (65 + 2 * k) ∧ hI h 34 k = e (66 + 2 * k) ∧ ∃ q, q < m ∧ e (65 + 2 * k) = nI q) (g : GO h 19 m) (what : Int32) : Con mX0_told 34 0 0 [.ref 16, .int what] h (retG (some (.int (toE pr m e what))) (fun h' => Chg S23 h h')) nox := by
  have w := rw.w
  have tm := rw.tm
  have h6 := rw.m6
  have hmm := rw.tr.1
  refine Con.of rfl rfl (Nat.le_of_ble_eq_true rfl) ?_
  refine s_iload_n 1 dX0_told_0 rfl rfl ?_
  by_cases w0 : what = 0
  · subst w0
    refine s_tableIn 48 dX0_told_1 (by decide) (by decide) rfl (by decide) ?_
    refine s_aload_n 0 dX0_told_48 rfl rfl ?_
    refine s_getP dX0_told_49 fl_X0_28 (fo_1_2.at (wk_16 w)) (wp_16_2 w) ?_
    refine s_getI dX0_told_52 fl_X0_181 (fo_2_6.at (wk_19 w)) ?_
    rw [rw.tr.dy]
    exact s_ireturn .int dX0_told_55 rfl rfl (rg rfl Chg.refl)
  by_cases w1 : what = 1
  · subst w1
    refine s_tableIn 56 dX0_told_1 (by decide) (by decide) rfl (by decide) ?_
    refine s_aload_n 0 dX0_told_56 rfl rfl ?_
    refine s_getP dX0_told_57 fl_X0_42 (fo_1_7.at (wk_16 w)) rfl ?_
    refine s_getI dX0_told_60 fl_X0_294 (fo_3_2.at rw.pa.2.1) ?_
    rw [rw.pa.2.2.1]
    exact s_ireturn .int dX0_told_63 rfl rfl (rg rfl Chg.refl)
  by_cases w2 : what = 2
  · subst w2
    refine s_tableIn 64 dX0_told_1 (by decide) (by decide) rfl (by decide) ?_
    refine s_aload_n 0 dX0_told_64 rfl rfl ?_
    refine s_getP dX0_told_65 fl_X0_28 (fo_1_2.at (wk_16 w)) (wp_16_2 w) ?_
    refine s_getI dX0_told_68 fl_X0_213 (fo_2_5.at (wk_19 w)) ?_
    rw [rw.tr.2.2.2.1]
    exact s_ireturn .int dX0_told_71 rfl rfl (rg rfl Chg.refl)
  by_cases w3 : what = 3
  · subst w3
    refine s_tableIn 72 dX0_told_1 (by decide) (by decide) rfl (by decide) ?_
    refine s_aload_n 0 dX0_told_72 rfl rfl ?_
    refine s_getP dX0_told_73 fl_X0_28 (fo_1_2.at (wk_16 w)) (wp_16_2 w) ?_
    refine s_getI dX0_told_76 fl_X0_159 (fo_2_4.at (wk_19 w)) ?_
    rw [gone_aw rw.tr g]
    exact s_ireturn .int dX0_told_79 rfl rfl (rg rfl Chg.refl)
  by_cases w4 : what = 4
  · subst w4
    refine s_tableIn 80 dX0_told_1 (by decide) (by decide) rfl (by decide) ?_
    refine s_aload_n 0 dX0_told_80 rfl rfl ?_
    refine s_callV (M2 := mX0_still) dX0_told_81 q1044 bX0_still inX0_still.2 qs32 rfl (c_still rw) rfl rfl (rk (wk_16 w) rfl rfl) ⟨by decide, by decide, by decide⟩ (Nat.le_of_ble_eq_true rfl) (fun v1 h1 z1 => ?_) (fun _ _ z => z.elim)
    obtain ⟨rfl, x1⟩ := z1
    exact s_ireturn .int dX0_told_84 rfl rfl (rg rfl x1)
  by_cases w5 : what = 5
  · subst w5
    refine s_tableIn 85 dX0_told_1 (by decide) (by decide) rfl (by decide) ?_
    refine s_aload_n 0 dX0_told_85 rfl rfl ?_
    refine s_callV (M2 := mX0_gains) dX0_told_86 q1048 bX0_gains inX0_gains.2 qs33 rfl (c_gains rw) rfl rfl (rk (wk_16 w) rfl rfl) ⟨by decide, by decide, by decide⟩ (Nat.le_of_ble_eq_true rfl) (fun v1 h1 z1 => ?_) (fun _ _ z => z.elim)
    obtain ⟨rfl, x1⟩ := z1
    exact s_ireturn .int dX0_told_89 rfl rfl (rg rfl x1)
  by_cases w6 : what = 6
  · subst w6
    refine s_tableIn 90 dX0_told_1 (by decide) (by decide) rfl (by decide) ?_
    refine s_aload_n 0 dX0_told_90 rfl rfl ?_
    refine s_iconst (v := 1) dX0_told_91 rfl ?_
    refine s_callV (M2 := mX0_owing) dX0_told_92 q1052 bX0_owing inX0_owing.2 qs34 rfl (c_owing rw hn he hc hs true) rfl rfl (rk (wk_16 w) rfl rfl) ⟨by decide, by decide, by decide⟩ (Nat.le_of_ble_eq_true rfl) (fun v1 h1 z1 => ?_) (fun _ _ z => z.elim)
    obtain ⟨rfl, x1⟩ := z1
    exact s_ireturn .int dX0_told_95 rfl rfl (rg rfl x1)
  by_cases w7 : what = 7
  · subst w7
    refine s_tableIn 96 dX0_told_1 (by decide) (by decide) rfl (by decide) ?_
    refine s_aload_n 0 dX0_told_96 rfl rfl ?_
    refine s_iconst (v := 0) dX0_told_97 rfl ?_
    refine s_callV (M2 := mX0_owing) dX0_told_98 q1052 bX0_owing inX0_owing.2 qs34 rfl (c_owing rw hn he hc hs false) rfl rfl (rk (wk_16 w) rfl rfl) ⟨by decide, by decide, by decide⟩ (Nat.le_of_ble_eq_true rfl) (fun v1 h1 z1 => ?_) (fun _ _ z => z.elim)
    obtain ⟨rfl, x1⟩ := z1
    exact s_ireturn .int dX0_told_101 rfl rfl (rg rfl x1)
  refine s_tableOut 102 dX0_told_1 (sw_n (n := 7) (fun k hk => match k, hk with | 0, _ => w0 | 1, _ => w1 | 2, _ => w2 | 3, _ => w3 | 4, _ => w4 | 5, _ => w5 | 6, _ => w6 | 7, _ => w7 | k + 8, hh => absurd hh (by omega))) (by decide) ?_
  refine s_iconst (v := -1) dX0_told_102 rfl ?_
  exact s_ireturn .int dX0_told_103 rfl rfl (rg (by unfold toE; rw [if_neg w0, if_neg w1, if_neg w2, if_neg w3, if_neg w4, if_neg w5, if_neg w6, if_neg w7]) Chg.refl)
