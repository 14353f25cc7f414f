/-! days of the component: all look for rates, move, pay -/
set_option maxRecDepth 100000
section CON
variable {inn inn' : Nat → Bool} {r r' : Nat → Int32}
theorem allS_c : ∀ {n : Nat}, (∀ q, q < n → inn q = inn' q) → (∀ q, q < n → r q = r' q) → allS inn r n = allS inn' r' n
  | 0, _, _ => rfl
  | n + 1, h1, h2 => by unfold allS; rw [allS_c (fun q hq => h1 q (by omega)) (fun q hq => h2 q (by omega)), h1 n (by omega), h2 n (by omega)]
theorem grS_c : ∀ {n : Nat}, (∀ q, q < n → inn q = inn' q) → (∀ q, q < n → r q = r' q) → grS inn r n = grS inn' r' n
  | 0, _, _ => rfl
  | n + 1, h1, h2 => by
    unfold grS
    rw [← grS_c (n := n) (fun q hq => h1 q (by omega)) (fun q hq => h2 q (by omega)), h1 n (by omega), h2 n (by omega)]
    cases hg : grS inn r n with
    | none => rfl
    | some b =>
      have := grS_lt inn r n b hg
      show (if inn' n = true then (if r b < r' n then _ else _) else _) = _
      rw [h2 b (by omega)]
theorem subS_c {f f' : Nat → Int32} {l : Int32} : ∀ {n : Nat}, (∀ q, q < n → inn q = inn' q) → (∀ q, q < n → f q = f' q) → subS inn f l n = subS inn' f' l n
  | 0, _, _ => rfl
  | n + 1, h1, h2 => by unfold subS; rw [subS_c (fun q hq => h1 q (by omega)) (fun q hq => h2 q (by omega)), h1 n (by omega), h2 n (by omega)]
theorem shareS_c {owed owed' : Int32} {m p : Nat} (ho : owed = owed') (h1 : ∀ q, q < m → inn q = inn' q) (h2 : ∀ q, q < m → r q = r' q) (hp : p < m) : shareS inn r owed m p = shareS inn' r' owed' m p := by
  subst ho
  have ha := allS_c h1 h2
  have hg := grS_c h1 h2
  have hpt : ∀ q, q < m → partS inn r owed m q = partS inn' r' owed m q := fun q hq => by unfold partS; rw [ha, h2 q hq]
  unfold shareS leftS left0
  rw [h1 p hp, hpt p hp, hg, ha, subS_c h1 hpt]
theorem bst_c {f g : Nat → Int32} : ∀ {n : Nat}, (∀ y, y ≤ n → f y = g y) → bst f n = bst g n
  | 0, hf => by unfold bst; rw [hf 0 (Nat.le_refl _)]
  | n + 1, hf => by unfold bst; rw [bst_c (n := n) (fun y hy => hf y (by omega)), hf (n + 1) (Nat.le_refl _)]
end CON
/-- the rates that were looked for -/
def RT (h : AH) (m : Nat) (f : Nat → Nat → Int32) : Prop := ∀ p, p < m → ∀ y, y < 10 → hI h 40 (10 * p + y) = maxJ 0 (f p y)
def RTu (h : AH) (p y : Nat) (f : Nat → Nat → Int32) : Prop := ∀ q z, z < 10 → (q < p ∨ q = p ∧ z < y) → hI h 40 (10 * q + z) = maxJ 0 (f q z)
theorem RTu.up {h : AH} {p : Nat} {f : Nat → Nat → Int32} (z : RTu h p 10 f) : RTu h (p + 1) 0 f := fun q y hy hq => z q y hy (by omega)
theorem RTu.set {h : AH} {p y : Nat} {f : Nat → Nat → Int32} {v : Int32} (z : RTu h p y f) (hy : y < 10) (hv : v = maxJ 0 (f p y)) : RTu (sI h 40 (10 * p + y) v) p (y + 1) f := by
  intro q x hx hq
  by_cases e : q = p ∧ x = y
  · obtain ⟨rfl, rfl⟩ := e
    rw [hI_sI, hv]
  · rw [hI_sI_ne (by omega)]
    exact z q x hx (by omega)
theorem RT.chg {S : List Nat} {h h' : AH} {m : Nat} {f : Nat → Nat → Int32} (z : RT h m f) (x : Chg S h h') (hS : 40 ∉ S) : RT h' m f := fun p hp y hy => by rw [x.i hS]; exact z p hp y hy
theorem RT.s {h : AH} {m : Nat} {f : Nat → Nat → Int32} {a j : Nat} {v : Int32} (z : RT h m f) (ha : a ≠ 40) : RT (sI h a j v) m f := fun p hp y hy => by rw [hI_sI_ne (fun z => ha z.1.symm)]; exact z p hp y hy
theorem c_looks {h : AH} {t m : Nat} {e : St} {pr : Pr} (rw : RW h t m e pr) : Con mX0_looksForRates 28 0 0 [.ref 16, .ref t] h (retG none (fun h' => Chg [30, 40] h h' ∧ RT h' m (rateE pr e))) nox := by
  have w := rw.w
  have tm := rw.tm
  have h6 := rw.m6
  have ht := rw.tt
  refine Con.of rfl rfl (Nat.le_of_ble_eq_true rfl) ?_
  refine s_iconst (v := 0) dX0_looksForRates_0 rfl ?_
  refine s_istore_n (ls' := [(2, _), (0, _), (1, _)]) 2 dX0_looksForRates_1 rfl (by decide) rfl ?_
  have L2 : ∀ p : Nat, p ≤ m → ∀ h1 : AH, Chg [30, 40] h h1 → RTu h1 p 0 (rateE pr e) → AW mX0_looksForRates 28 (retG none (fun h' => Chg [30, 40] h h' ∧ RT h' m (rateE pr e))) nox 0 0 2 [(2, .int (nI p)), (0, .ref 16), (1, .ref t)] [] h1 := by
    refine for_up (fun p hpp ih => ?_)
    intro h1 x1 r1
    have rwO := rw
    have rw := rw.chg x1 (by decide +kernel) (by decide) (by decide) (fun _ => by decide)
    have w := rw.w
    have tm := rw.tm
    refine s_iload_n 2 dX0_looksForRates_2 rfl rfl ?_
    refine s_aload_n 1 dX0_looksForRates_3 rfl rfl ?_
    refine s_getI dX0_looksForRates_4 fl_X0_115 (fo_2_3.at tm.k) ?_
    refine s_icmp_ge 52 dX0_looksForRates_7 (by decide) (fun c7 => ?_) (fun c7 => ?_)
    · skip
      have hge := le_ge tm.mm (by omega) (by omega) c7
      obtain rfl : p = m := by omega
      exact s_return dX0_looksForRates_52 rfl ⟨rfl, x1, fun q hq y hy => r1 q y hy (Or.inl hq)⟩
    · skip
      have hlt := nle_lt tm.mm (by omega) (by omega) c7
      refine s_iconst (v := 0) dX0_looksForRates_10 rfl ?_
      refine s_istore_n (ls' := [(3, _), (2, _), (0, _), (1, _)]) 3 dX0_looksForRates_11 rfl (by decide) rfl ?_
      have L12 : ∀ y : Nat, y ≤ 10 → ∀ h2 : AH, Chg [30, 40] h h2 → RTu h2 p y (rateE pr e) → AW mX0_looksForRates 28 (retG none (fun h' => Chg [30, 40] h h' ∧ RT h' m (rateE pr e))) nox 0 0 12 [(3, .int (nI y)), (2, .int (nI p)), (0, .ref 16), (1, .ref t)] [] h2 := by
        refine for_up (fun y hpy ih12 => ?_)
        intro h2 x2 r2
        have rw := rwO.chg x2 (by decide +kernel) (by decide) (by decide) (fun _ => by decide)
        have w := rw.w
        have tm := rw.tm
        refine s_iload_n 3 dX0_looksForRates_12 rfl rfl ?_
        refine s_bipush (v := 10) dX0_looksForRates_13 rfl ?_
        refine s_icmp_ge 46 dX0_looksForRates_15 (by decide) (fun c15 => ?_) (fun c15 => ?_)
        · skip
          have hge := le_ge (y := 10) (m := 10) rfl (by omega) (by omega) c15
          obtain rfl : y = 10 := by omega
          refine s_iinc (v := nI (p + 1)) (ls' := [(2, _), (3, _), (0, _), (1, _)]) dX0_looksForRates_46 rfl (nI_succ p).symm (by decide) rfl ?_
          refine s_goto 2 dX0_looksForRates_49 (by decide) ?_
          exact AW.lc (ih hlt _ x2 r2.up) ⟨rfl, rfl, rfl, trivial⟩
        · skip
          have hy10 := nle_lt (y := 10) (m := 10) rfl (by omega) (by omega) c15
          refine s_aload_n 0 dX0_looksForRates_18 rfl rfl ?_
          refine s_getP dX0_looksForRates_19 fl_X0_84 (fo_1_20.at (wk_16 w)) (wp_16_20 w) ?_
          refine s_bipush (v := 10) dX0_looksForRates_22 rfl ?_
          refine s_iload_n 2 dX0_looksForRates_24 rfl rfl ?_
          refine s_imul dX0_looksForRates_25 ?_
          refine s_iload_n 3 dX0_looksForRates_26 rfl rfl ?_
          refine s_iadd dX0_looksForRates_27 ?_
          refine s_iconst (v := 0) dX0_looksForRates_28 rfl ?_
          refine s_aload_n 0 dX0_looksForRates_29 rfl rfl ?_
          refine s_aload_n 1 dX0_looksForRates_30 rfl rfl ?_
          refine s_iload_n 2 dX0_looksForRates_31 rfl rfl ?_
          refine s_iload_n 3 dX0_looksForRates_32 rfl rfl ?_
          refine s_callV (M2 := mX0_rateOf) dX0_looksForRates_33 q501 bX0_rateOf inX0_rateOf.2 qs4 rfl (c_rateOf rw p y hlt hy10) rfl rfl (rk (wk_16 w) rfl rfl) ⟨by decide, by decide, by decide⟩ (Nat.le_of_ble_eq_true rfl) (fun v2 h2 z2 => ?_) (fun _ _ z => z.elim)
          obtain ⟨rfl, rfl⟩ := z2
          refine s_mmax dX0_looksForRates_36 q601 (by decide) (Nat.le_of_ble_eq_true rfl) ?_
          refine s_iast (j := (10 * p + y)) dX0_looksForRates_39 (wk_40 w) (Nat.le_of_ble_eq_true rfl) (ixn (wn_40 w) (ix_eq (nI_ma 10 p y) (by omega) (by decide))) ?_
          refine s_iinc (v := nI (y + 1)) (ls' := [(3, _), (2, _), (0, _), (1, _)]) dX0_looksForRates_40 rfl (nI_succ y).symm (by decide) rfl ?_
          refine s_goto 12 dX0_looksForRates_43 (by decide) ?_
          exact AW.lc (ih12 hy10 _ ((x2.trans ((lkH_chg _ _).mono (by simp))).s (by simp)) (RTu.set (fun q z hz hq => by rw [(lkH_chg _ _).i (by decide)]; exact r2 q z hz hq) hy10 rfl)) ⟨rfl, rfl, rfl, rfl, trivial⟩
      exact AW.lc (L12 0 (Nat.zero_le _) h1 x1 r1) ⟨rfl, rfl, rfl, rfl, trivial⟩
  exact AW.lc (L2 0 (Nat.zero_le _) h Chg.refl (fun q z _ hq => absurd hq (by omega))) ⟨rfl, rfl, rfl, trivial⟩
def upE (e : St) (k : Nat) (v : Int32) : St := fun j => if j = k then v else e j
theorem upE_s {e : St} {k : Nat} {v : Int32} : upE e k v k = v := if_pos rfl
theorem upE_o {e : St} {k j : Nat} {v : Int32} (hj : j ≠ k) : upE e k v j = e j := if_neg hj
/-- a share as all stand; what a yard is worth to one -/
def shE (f : Nat → Nat → Int32) (e : St) (m p : Nat) : Int32 := shareS (hrE e) (fun q => maxJ 0 (f q (yE e q))) (e 61) m p
def woE (f : Nat → Nat → Int32) (e : St) (m p y : Nat) : Int32 := e (10 * p + 2) * (10 - nI y) - shareS (fun q => hrE e q || q == p) (fun q => maxJ 0 (f q (upN (yE e) p y q))) (e 61) m p
def bsE (f : Nat → Nat → Int32) (e : St) (m p : Nat) : Nat := (bst (woE f e m p) 9).1
/-- the first n go where it is best; did one move -/
def mvE (f : Nat → Nat → Int32) (m : Nat) (e : St) : Nat → St × Bool
  | 0 => (e, false)
  | n + 1 => if hrE (mvE f m e n).1 n = true ∧ woE f (mvE f m e n).1 m n (yE (mvE f m e n).1 n) < woE f (mvE f m e n).1 m n (bsE f (mvE f m e n).1 m n) then (upE (mvE f m e n).1 (10 * n + 3) (nI (bsE f (mvE f m e n).1 m n)), true) else mvE f m e n
/-- the first n pay -/
def adE (f : Nat → Nat → Int32) (m : Nat) (e : St) : Nat → St
  | 0 => e
  | n + 1 => upE (adE f m e n) (10 * n + 5) (adE f m e n (10 * n + 5) + shE f (adE f m e n) m n)
def dayE (pr : Pr) (m : Nat) (e : St) : St × Bool := (upE (adE (rateE pr e) m (mvE (rateE pr e) m e m).1 m) 62 ((adE (rateE pr e) m (mvE (rateE pr e) m e m).1 m) 62 + 1), (mvE (rateE pr e) m e m).2)
theorem bs_pres {h : AH} {t m : Nat} {e : St} (z : TR h t m e) {q : Nat} (hq : q < m) : bs (presS (hI h t 3) (hI h t 4)) q = hrE e q := by
  have h6 := z.2.1
  unfold presS
  rw [bs_and _ _ (by omega), z.1, bs_ones (by omega) (by omega), bs_not _ (by omega), (z.2.2.1 q hq).2.2.2.2.2]
  simp [hq]
theorem bs_setW {h : AH} {t m : Nat} {e : St} (z : TR h t m e) {p q : Nat} (hp : p < m) (hq : q < m) : bs (setW h t p) q = (hrE e q || q == p) := by
  have h6 := z.2.1
  unfold setW
  rw [bs_or _ _ (by omega), bs_pres z hq, bs_one (by omega) (by omega)]
  rfl
section ESP
variable {h : AH} {t m : Nat} {e : St} {pr : Pr} {f : Nat → Nat → Int32}
theorem rh_f (r : RT h m f) {yd : Nat → Nat} (hy : ∀ q, q < m → yd q < 10) {q : Nat} (hq : q < m) : rh h yd q = maxJ 0 (f q (yd q)) := r q hq _ (hy q hq)
theorem TR.y10 (z : TR h t m e) {q : Nat} (hq : q < m) : yE e q < 10 := (z.2.2.1 q hq).2.2.2.1
theorem upN_10 {yd : Nat → Nat} {p y : Nat} (hyd : ∀ q, q < m → yd q < 10) (hy : y < 10) : ∀ q, q < m → upN yd p y q < 10 := by
  intro q hq
  unfold upN
  by_cases c : q = p
  · rw [if_pos c]; exact hy
  · rw [if_neg c]; exact hyd q hq
theorem wS_woE (rw : RW h t m e pr) (r : RT h m f) {p y : Nat} (hp : p < m) (hy : y < 10) : wS h t m (yE e) p y = woE f e m p y := by
  have z := rw.tr
  unfold wS woE
  rw [(z.2.2.1 p hp).1]
  rw [shareS_c (inn' := fun q => hrE e q || q == p) (r' := fun q => maxJ 0 (f q (upN (yE e) p y q))) (owed' := e 61) z.2.2.2.1 (fun q hq => bs_setW z hp hq) (fun q hq => rh_f r (upN_10 (fun q hq => z.y10 hq) hy) hq) hp]
theorem bst_bsE (rw : RW h t m e pr) (r : RT h m f) {p : Nat} (hp : p < m) : (bst (wS h t m (yE e) p) 9).1 = bsE f e m p := by
  unfold bsE
  rw [bst_c (fun y hy => wS_woE rw r hp (by omega))]
theorem bsE_10 {p : Nat} : bsE f e m p < 10 := Nat.lt_of_le_of_lt (bst_le _ 9) (by decide)
theorem share_shE (rw : RW h t m e pr) (r : RT h m f) {p : Nat} (hp : p < m) : shareS (bs (presS (hI h t 3) (hI h t 4))) (rh h (yE e)) (hI h t 5) m p = shE f e m p := by
  have z := rw.tr
  exact shareS_c z.2.2.2.1 (fun q hq => bs_pres z hq) (fun q hq => rh_f r (fun q hq => z.y10 hq) hq) hp
theorem nI_cl {y : Nat} (hy : y < 1000) : (nI y).toNatClampNeg = y := nI_clamp (by omega)
/-- one goes to a yard -/
theorem RW.yard (rw : RW h t m e pr) {p y : Nat} (hp : p < m) (hy : y < 10) : RW (sI h (t + 2) p (nI y)) t m (upE e (10 * p + 3) (nI y)) pr := by
  have ht := rw.tt
  have x : Chg [t + 2] h (sI h (t + 2) p (nI y)) := Chg.refl.s (List.mem_singleton_self _)
  have hS : fxS [t + 2] = true := by rcases ht with rfl | rfl <;> decide +kernel
  have hyE : ∀ q, yE (upE e (10 * p + 3) (nI y)) q = if q = p then y else yE e q := by
    intro q
    unfold yE
    by_cases c : q = p
    · subst c; rw [upE_s, if_pos rfl, nI_cl (by omega)]
    · rw [upE_o (by omega), if_neg c]
  refine ⟨rw.w.chg x, ht, ⟨(hI_sI_ne (by omega)).trans rw.tr.1, rw.m6, fun q hq => ?_, ?_, ?_⟩, fun q hq => ?_, ?_⟩
  · obtain ⟨z1, z2, z3, z4, z5, z6⟩ := rw.tr.2.2.1 q hq
    rw [hI_sI_ne (by omega), hI_sI_ne (a := t + 2) (b := t + 3) (by omega), hI_sI_ne (a := t + 2) (b := t) (by omega), upE_o (by omega), upE_o (j := 10 * q + 5) (by omega), hyE]
    refine ⟨z1, ?_, ?_, ?_, z5, ?_⟩
    · by_cases c : q = p
      · subst c; rw [hI_sI, if_pos rfl]
      · rw [hI_sI_ne (by omega), if_neg c]; exact z2
    · by_cases c : q = p
      · subst c; rw [upE_s, if_pos rfl]
      · rw [upE_o (by omega), if_neg c]; exact z3
    · by_cases c : q = p
      · rw [if_pos c]; exact hy
      · rw [if_neg c]; exact z4
    · unfold hrE
      rw [upE_o (by omega)]
      exact z6
  · rw [hI_sI_ne (by omega), upE_o (by have := rw.m6; omega)]; exact rw.tr.2.2.2.1
  · rw [hI_sI_ne (by omega), upE_o (by have := rw.m6; omega)]; exact rw.tr.2.2.2.2
  · obtain ⟨z1, z2, z3, z4⟩ := rw.mo.chg rw.w x hS (by simp; omega) q hq
    have hk : kE (upE e (10 * p + 3) (nI y)) q = kE e q := by unfold kE; rw [upE_o (by omega)]
    rw [hk, upE_o (by omega), upE_o (j := 10 * q) (by omega)]
    exact ⟨z1, z2, z3, fun j hj => by rw [upE_o (by omega)]; exact z4 j hj⟩
  · exact rw.pa.chg rw.w x hS
/-- one's payments -/
theorem RW.paid (rw : RW h t m e pr) {p : Nat} {v : Int32} (hp : p < m) : RW (sI h (t + 3) p v) t m (upE e (10 * p + 5) v) pr := by
  have ht := rw.tt
  have x : Chg [t + 3] h (sI h (t + 3) p v) := Chg.refl.s (List.mem_singleton_self _)
  have hS : fxS [t + 3] = true := by rcases ht with rfl | rfl <;> decide +kernel
  have hyE : ∀ q, yE (upE e (10 * p + 5) v) q = yE e q := by
    intro q
    unfold yE
    rw [upE_o (by omega)]
  refine ⟨rw.w.chg x, ht, ⟨(hI_sI_ne (by omega)).trans rw.tr.1, rw.m6, fun q hq => ?_, ?_, ?_⟩, fun q hq => ?_, ?_⟩
  · obtain ⟨z1, z2, z3, z4, z5, z6⟩ := rw.tr.2.2.1 q hq
    rw [hI_sI_ne (by omega), hI_sI_ne (a := t + 3) (b := t + 2) (by omega), hI_sI_ne (a := t + 3) (b := t) (by omega), upE_o (by omega), upE_o (j := 10 * q + 3) (by omega), hyE]
    refine ⟨z1, z2, z3, z4, ?_, ?_⟩
    · by_cases c : q = p
      · subst c; rw [hI_sI, upE_s]
      · rw [hI_sI_ne (by omega), upE_o (by omega)]; exact z5
    · unfold hrE
      rw [upE_o (by omega)]
      exact z6
  · rw [hI_sI_ne (by omega), upE_o (by have := rw.m6; omega)]; exact rw.tr.2.2.2.1
  · rw [hI_sI_ne (by omega), upE_o (by have := rw.m6; omega)]; exact rw.tr.2.2.2.2
  · obtain ⟨z1, z2, z3, z4⟩ := rw.mo.chg rw.w x hS (by simp; omega) q hq
    have hk : kE (upE e (10 * p + 5) v) q = kE e q := by unfold kE; rw [upE_o (by omega)]
    rw [hk, upE_o (by omega), upE_o (j := 10 * q) (by omega)]
    exact ⟨z1, z2, z3, fun j hj => by rw [upE_o (by omega)]; exact z4 j hj⟩
  · exact rw.pa.chg rw.w x hS
/-- the next day -/
theorem RW.day (rw : RW h t m e pr) (v : Int32) : RW (sI h t 6 v) t m (upE e 62 v) pr := by
  have ht := rw.tt
  have h6 := rw.m6
  have x : Chg [t] h (sI h t 6 v) := Chg.refl.s (List.mem_singleton_self _)
  have hS : fxS [t] = true := by rcases ht with rfl | rfl <;> decide +kernel
  have hyE : ∀ q, q < m → yE (upE e 62 v) q = yE e q := by
    intro q hq
    unfold yE
    rw [upE_o (by omega)]
  refine ⟨rw.w.chg x, ht, ⟨(hI_sI_ne (by omega)).trans rw.tr.1, rw.m6, fun q hq => ?_, ?_, ?_⟩, fun q hq => ?_, ?_⟩
  · obtain ⟨z1, z2, z3, z4, z5, z6⟩ := rw.tr.2.2.1 q hq
    rw [hI_sI_ne (by omega), hI_sI_ne (a := t) (b := t + 2) (by omega), hI_sI_ne (a := t) (b := t + 3) (by omega), hI_sI_ne (a := t) (b := t) (by omega), upE_o (by omega), upE_o (j := 10 * q + 3) (by omega), upE_o (j := 10 * q + 5) (by omega), hyE q hq]
    refine ⟨z1, z2, z3, z4, z5, ?_⟩
    unfold hrE
    rw [upE_o (by omega)]
    exact z6
  · rw [hI_sI_ne (by omega), upE_o (by omega)]; exact rw.tr.2.2.2.1
  · rw [hI_sI, upE_s]
  · obtain ⟨z1, z2, z3, z4⟩ := rw.mo.chg rw.w x hS (by simp; omega) q hq
    have hk : kE (upE e 62 v) q = kE e q := by unfold kE; rw [upE_o (by omega)]
    rw [hk, upE_o (by omega), upE_o (j := 10 * q) (by omega)]
    exact ⟨z1, z2, z3, fun j hj => by rw [upE_o (by omega)]; exact z4 j hj⟩
  · exact rw.pa.chg rw.w x hS
end ESP
/-- what a day changes: the look, the rates, the time -/
def SS (t : Nat) : List Nat := [30, 40, t, t + 2, t + 3]
theorem SS_fx {t : Nat} (ht : t = 19 ∨ t = 23) : fxS (SS t) = true := by rcases ht with rfl | rfl <;> decide +kernel
theorem mvE_0 {f : Nat → Nat → Int32} {m : Nat} {e : St} {n : Nat} (c : ¬ (hrE (mvE f m e n).1 n = true ∧ woE f (mvE f m e n).1 m n (yE (mvE f m e n).1 n) < woE f (mvE f m e n).1 m n (bsE f (mvE f m e n).1 m n))) : mvE f m e (n + 1) = mvE f m e n := if_neg c
theorem mvE_1 {f : Nat → Nat → Int32} {m : Nat} {e : St} {n : Nat} (c : hrE (mvE f m e n).1 n = true ∧ woE f (mvE f m e n).1 m n (yE (mvE f m e n).1 n) < woE f (mvE f m e n).1 m n (bsE f (mvE f m e n).1 m n)) : mvE f m e (n + 1) = (upE (mvE f m e n).1 (10 * n + 3) (nI (bsE f (mvE f m e n).1 m n)), true) := if_pos c
theorem c_doMove {h : AH} {t m : Nat} {e : St} {pr : Pr} (rw : RW h t m e pr) : Con mX0_doMove 30 0 0 [.ref 16, .ref t] h (retG (some (.int (b2i (mvE (rateE pr e) m e m).2))) (fun h' => Chg (SS t) h h' ∧ RW h' t m (mvE (rateE pr e) m e m).1 pr ∧ RT h' m (rateE pr e))) nox := by
  have w := rw.w
  have tm := rw.tm
  have h6 := rw.m6
  have ht := rw.tt
  refine Con.of rfl rfl (Nat.le_of_ble_eq_true rfl) ?_
  refine s_aload_n 0 dX0_doMove_0 rfl rfl ?_
  refine s_aload_n 1 dX0_doMove_1 rfl rfl ?_
  refine s_callV (M2 := mX0_looksForRates) dX0_doMove_2 q497 bX0_looksForRates inX0_looksForRates.2 qs3 rfl (c_looks rw) rfl rfl (rk (wk_16 w) rfl rfl) ⟨by decide, by decide, by decide⟩ (Nat.le_of_ble_eq_true rfl) (fun v1 h1 z1 => ?_) (fun _ _ z => z.elim)
  obtain ⟨rfl, x0, r0⟩ := z1
  have rw0 := rw.chg x0 (by decide +kernel) (by decide) (by decide) (fun _ => by decide)
  refine s_iconst (v := 0) dX0_doMove_5 rfl ?_
  refine s_istore_n (ls' := [(2, _), (0, _), (1, _)]) 2 dX0_doMove_6 rfl (by decide) rfl ?_
  refine s_iconst (v := 0) dX0_doMove_7 rfl ?_
  refine s_istore_n (ls' := [(3, _), (2, _), (0, _), (1, _)]) 3 dX0_doMove_8 rfl (by decide) rfl ?_
  have L9 : ∀ p : Nat, p ≤ m → ∀ h2 : AH, Chg (SS t) h h2 → RW h2 t m (mvE (rateE pr e) m e p).1 pr → RT h2 m (rateE pr e) → AW mX0_doMove 30 (retG (some (.int (b2i (mvE (rateE pr e) m e m).2))) (fun h' => Chg (SS t) h h' ∧ RW h' t m (mvE (rateE pr e) m e m).1 pr ∧ RT h' m (rateE pr e))) nox 0 0 9 [(3, .int (nI p)), (2, .int (b2i (mvE (rateE pr e) m e p).2)), (0, .ref 16), (1, .ref t)] [] h2 := by
    refine for_up (fun p hpp ih => ?_)
    intro h2 x1 rw1 r1
    have w := rw1.w
    have tm := rw1.tm
    refine s_iload_n 3 dX0_doMove_9 rfl rfl ?_
    refine s_aload_n 1 dX0_doMove_10 rfl rfl ?_
    refine s_getI dX0_doMove_11 fl_X0_115 (fo_2_3.at tm.k) ?_
    refine s_icmp_ge 79 dX0_doMove_14 (by decide) (fun c14 => ?_) (fun c14 => ?_)
    · skip
      have hge := le_ge tm.mm (by omega) (by omega) c14
      obtain rfl : p = m := by omega
      refine s_iload_n 2 dX0_doMove_79 rfl rfl ?_
      exact s_ireturn .boolean dX0_doMove_80 rfl (nb2i _) ⟨rfl, x1, rw1, r1⟩
    · skip
      have hlt := nle_lt tm.mm (by omega) (by omega) c14
      refine s_aload_n 1 dX0_doMove_17 rfl rfl ?_
      refine s_iload_n 3 dX0_doMove_18 rfl rfl ?_
      refine s_callV_p (M2 := mX1_isAway) dX0_doMove_19 q604 bX1_isAway inX1_isAway.2 q606 rfl (c_isAway _ _ _ tm.k) rfl rfl (rk tm.k rfl rfl) ⟨by decide, by decide, by decide⟩ (Nat.le_of_ble_eq_true rfl) ?_
      have hgo := (rw1.tr.2.2.1 p hlt).2.2.2.2.2
      change bs (hI h2 t 4) p = _ at hgo
      refine s_ifeq_b 28 dX0_doMove_22 (by decide) (fun c22 => ?_) (fun c22 => ?_)
      · skip
        refine s_aload_n 0 dX0_doMove_28 rfl rfl ?_
        refine s_aload_n 1 dX0_doMove_29 rfl rfl ?_
        refine s_iload_n 3 dX0_doMove_30 rfl rfl ?_
        refine s_callV_p (M2 := mX0_bestOf) dX0_doMove_31 q611 bX0_bestOf inX0_bestOf.2 qs5 rfl (c_bestOf tm _ hlt) rfl rfl (rk (wk_16 w) rfl rfl) ⟨by decide, by decide, by decide⟩ (Nat.le_of_ble_eq_true rfl) ?_
        rw [bst_bsE rw1 r1 hlt]
        refine s_istore (ls' := [(4, _), (3, _), (2, _), (0, _), (1, _)]) dX0_doMove_34 (by decide) rfl ?_
        refine s_aload_n 0 dX0_doMove_36 rfl rfl ?_
        refine s_aload_n 1 dX0_doMove_37 rfl rfl ?_
        refine s_iload_n 3 dX0_doMove_38 rfl rfl ?_
        refine s_iload dX0_doMove_39 rfl ?_
        refine s_callV_p (M2 := mX0_worthOf) dX0_doMove_41 q615 bX0_worthOf inX0_worthOf.2 qs6 rfl (c_worthOf tm p hlt (bsE (rateE pr e) (mvE (rateE pr e) m e p).1 m p) bsE_10) rfl rfl (rk (wk_16 w) rfl rfl) ⟨by decide, by decide, by decide⟩ (Nat.le_of_ble_eq_true rfl) ?_
        rw [wS_woE rw1 r1 hlt bsE_10]
        refine s_aload_n 0 dX0_doMove_44 rfl rfl ?_
        refine s_aload_n 1 dX0_doMove_45 rfl rfl ?_
        refine s_iload_n 3 dX0_doMove_46 rfl rfl ?_
        refine s_aload_n 1 dX0_doMove_47 rfl rfl ?_
        refine s_getP dX0_doMove_48 fl_X0_153 (fo_2_1.at tm.k) tm.p1 ?_
        refine s_iload_n 3 dX0_doMove_51 rfl rfl ?_
        refine s_bald (j := p) dX0_doMove_52 tm.k2 (ixn (tm.n2) (ix_nI (by omega) (by decide))) ?_
        rw [tm.y hlt]
        refine s_callV_p (M2 := mX0_worthOf) dX0_doMove_53 q615 bX0_worthOf inX0_worthOf.2 qs6 rfl (c_worthOf tm p hlt (yE (mvE (rateE pr e) m e p).1 p) (tm.y10 hlt)) rfl rfl (rk (wk_16 w) rfl rfl) ⟨by decide, by decide, by decide⟩ (Nat.le_of_ble_eq_true rfl) ?_
        rw [wS_woE rw1 r1 hlt (tm.y10 hlt)]
        refine s_icmp_gt 62 dX0_doMove_56 (by decide) (fun c56 => ?_) (fun c56 => ?_)
        · skip
          have hyes : hrE (mvE (rateE pr e) m e p).1 p = true ∧ _ := ⟨by rw [show bs (hI h2 t 4) p = false from c22] at hgo; simpa using hgo.symm, c56⟩
          refine s_aload_n 1 dX0_doMove_62 rfl rfl ?_
          refine s_getP dX0_doMove_63 fl_X0_153 (fo_2_1.at tm.k) tm.p1 ?_
          refine s_iload_n 3 dX0_doMove_66 rfl rfl ?_
          refine s_iload dX0_doMove_67 rfl ?_
          refine s_i2b dX0_doMove_69 ?_
          rw [nI_b _ (Nat.lt_trans bsE_10 (by decide))]
          refine s_bast (j := p) dX0_doMove_70 tm.k2 (by have := tm.t16; omega) (ixn (tm.n2) (ix_nI (by omega) (by decide))) ?_
          rw [nI_b _ (Nat.lt_trans bsE_10 (by decide))]
          refine s_iconst (v := 1) dX0_doMove_71 rfl ?_
          refine s_istore_n (ls' := [(2, _), (4, _), (3, _), (0, _), (1, _)]) 2 dX0_doMove_72 rfl (by decide) rfl ?_
          refine s_iinc (v := nI (p + 1)) (ls' := [(3, _), (2, _), (4, _), (0, _), (1, _)]) dX0_doMove_73 rfl (nI_succ p).symm (by decide) rfl ?_
          refine s_goto 9 dX0_doMove_76 (by decide) ?_
          exact AW.lc (ih hlt _ (x1.s (by simp [SS])) (by rw [mvE_1 hyes]; exact rw1.yard hlt bsE_10) (r1.s (by omega))) ⟨rfl, (congrArg (fun x : St × Bool => some (Value.int (b2i x.2))) (mvE_1 hyes).symm), rfl, rfl, trivial⟩
        · skip
          refine s_goto 73 dX0_doMove_59 (by decide) ?_
          refine s_iinc (v := nI (p + 1)) (ls' := [(3, _), (4, _), (2, _), (0, _), (1, _)]) dX0_doMove_73 rfl (nI_succ p).symm (by decide) rfl ?_
          refine s_goto 9 dX0_doMove_76 (by decide) ?_
          exact AW.lc (ih hlt _ x1 (by rw [mvE_0 (fun y => absurd y.2 c56)]; exact rw1) r1) ⟨rfl, (congrArg (fun x : St × Bool => some (Value.int (b2i x.2))) (mvE_0 (fun y => absurd y.2 c56)).symm), rfl, rfl, trivial⟩
      · skip
        have hng : hrE (mvE (rateE pr e) m e p).1 p = false := by have y := hgo; rw [show bs (hI h2 t 4) p = true from c22] at y; simpa using y
        refine s_goto 73 dX0_doMove_25 (by decide) ?_
        refine s_iinc (v := nI (p + 1)) (ls' := [(3, _), (2, _), (0, _), (1, _)]) dX0_doMove_73 rfl (nI_succ p).symm (by decide) rfl ?_
        refine s_goto 9 dX0_doMove_76 (by decide) ?_
        exact AW.lc (ih hlt _ x1 (by rw [mvE_0 (fun y => by rw [hng] at y; exact absurd y.1 (by decide))]; exact rw1) r1) ⟨rfl, (congrArg (fun x : St × Bool => some (Value.int (b2i x.2))) (mvE_0 (fun y => by rw [hng] at y; exact absurd y.1 (by decide))).symm), rfl, rfl, trivial⟩
  exact AW.lc (L9 0 (Nat.zero_le _) h1 (x0.mono (by simp [SS])) rw0 r0) ⟨rfl, rfl, rfl, rfl, trivial⟩
