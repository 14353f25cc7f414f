/-! shares and worths: what the component computes of a time -/
set_option maxRecDepth 100000
theorem nI_mul (a b : Nat) : nI a * nI b = nI (a * b) := (Int32.ofNat_mul a b).symm
theorem nI_pl (a b : Nat) : nI a + nI b = nI (a + b) := (Int32.ofNat_add a b).symm
theorem nI_ma (a b c : Nat) : nI a * nI b + nI c = nI (a * b + c) := by rw [nI_mul, nI_pl]
theorem ixn {i : Int32} {j n N : Nat} (e : N = n) (hx : ix i j n) : ix i j N := by subst e; exact hx
theorem ix_eq {i : Int32} {j n : Nat} (e : i = nI j) (h : j < n) (hn : n ≤ 2 ^ 31) : ix i j n := by subst e; exact ix_nI h hn
theorem nle_lt {y : Int32} {m p : Nat} (e : y = nI m) (hm : m < 2 ^ 31) (hp : p < 2 ^ 31) (c : ¬ y ≤ nI p) : p < m := by
  subst e
  rw [Int32.le_iff_toInt_le, nI_toInt hm, nI_toInt hp] at c
  omega
theorem le_ge {y : Int32} {m p : Nat} (e : y = nI m) (hm : m < 2 ^ 31) (hp : p < 2 ^ 31) (c : y ≤ nI p) : m ≤ p := by
  subst e
  rw [Int32.le_iff_toInt_le, nI_toInt hm, nI_toInt hp] at c
  omega
theorem nI_inj {a b : Nat} (ha : a < 2 ^ 31) (hb : b < 2 ^ 31) (e : nI a = nI b) : a = b := by
  have h := congrArg Int32.toInt e
  rw [nI_toInt ha, nI_toInt hb] at h
  omega
/-- a time that runs or is tried: m mourners, standing at the yards yd -/
def Tm (h : AH) (t m : Nat) (yd : Nat → Nat) : Prop := WF h ∧ (t = 19 ∨ t = 23) ∧ m ≤ 6 ∧ hI h t 3 = nI m ∧ ∀ p, p < m → hI h (t + 2) p = nI (yd p) ∧ yd p < 10
section TM
variable {h : AH} {t m : Nat} {yd : Nat → Nat}
theorem Tm.w (z : Tm h t m yd) : WF h := z.1
theorem Tm.m6 (z : Tm h t m yd) : m ≤ 6 := z.2.2.1
theorem Tm.mm (z : Tm h t m yd) : hI h t 3 = nI m := z.2.2.2.1
theorem Tm.y (z : Tm h t m yd) {p : Nat} (hp : p < m) : hI h (t + 2) p = nI (yd p) := (z.2.2.2.2 p hp).1
theorem Tm.y10 (z : Tm h t m yd) {p : Nat} (hp : p < m) : yd p < 10 := (z.2.2.2.2 p hp).2
theorem Tm.cs (z : Tm h t m yd) {P : Nat → Prop} (h1 : P 19) (h2 : P 23) : P t := by
  rcases z.2.1 with e | e
  · rw [e]; exact h1
  · rw [e]; exact h2
theorem Tm.k (z : Tm h t m yd) : hK h t = 2 := z.cs (P := fun t => hK h t = 2) (wk_19 z.1) (wk_23 z.1)
theorem Tm.k1 (z : Tm h t m yd) : hK h (t + 1) = 101 := z.cs (P := fun t => hK h (t + 1) = 101) (wk_20 z.1) (wk_24 z.1)
theorem Tm.k2 (z : Tm h t m yd) : hK h (t + 2) = 101 := z.cs (P := fun t => hK h (t + 2) = 101) (wk_21 z.1) (wk_25 z.1)
theorem Tm.k3 (z : Tm h t m yd) : hK h (t + 3) = 100 := z.cs (P := fun t => hK h (t + 3) = 100) (wk_22 z.1) (wk_26 z.1)
theorem Tm.n1 (z : Tm h t m yd) : hN h (t + 1) = 6 := z.cs (P := fun t => hN h (t + 1) = 6) (wn_20 z.1) (wn_24 z.1)
theorem Tm.n2 (z : Tm h t m yd) : hN h (t + 2) = 6 := z.cs (P := fun t => hN h (t + 2) = 6) (wn_21 z.1) (wn_25 z.1)
theorem Tm.n3 (z : Tm h t m yd) : hN h (t + 3) = 6 := z.cs (P := fun t => hN h (t + 3) = 6) (wn_22 z.1) (wn_26 z.1)
theorem Tm.p0 (z : Tm h t m yd) : hP h t 0 = t + 1 := z.cs (P := fun t => hP h t 0 = t + 1) (wp_19_0 z.1) (wp_23_0 z.1)
theorem Tm.p1 (z : Tm h t m yd) : hP h t 1 = t + 2 := z.cs (P := fun t => hP h t 1 = t + 2) (wp_19_1 z.1) (wp_23_1 z.1)
theorem Tm.p2 (z : Tm h t m yd) : hP h t 2 = t + 3 := z.cs (P := fun t => hP h t 2 = t + 3) (wp_19_2 z.1) (wp_23_2 z.1)
theorem Tm.t16 (z : Tm h t m yd) : 16 ≤ t := by rcases z.2.1 with e | e <;> omega
end TM
/-- a set's bits -/
def bs (set : Int32) (p : Nat) : Bool := bitB set (nI p)
/-- the rate that was looked for, where one stands -/
def rh (h : AH) (yd : Nat → Nat) (p : Nat) : Int32 := hI h 40 (10 * p + yd p)
def allS (inn : Nat → Bool) (r : Nat → Int32) : Nat → Int32
  | 0 => 0
  | n + 1 => if inn n = true then allS inn r n + r n else allS inn r n
def partS (inn : Nat → Bool) (r : Nat → Int32) (owed : Int32) (m p : Nat) : Int32 := if allS inn r m = 0 then 0 else owed * r p / allS inn r m
def grS (inn : Nat → Bool) (r : Nat → Int32) : Nat → Option Nat
  | 0 => none
  | n + 1 => if inn n = true then (match grS inn r n with
    | none => some n
    | some b => if r b < r n then some n else some b) else grS inn r n
def grE (o : Option Nat) : Int32 := match o with
  | none => -5
  | some b => nI b
def subS (inn : Nat → Bool) (f : Nat → Int32) (l : Int32) : Nat → Int32
  | 0 => l
  | n + 1 => if inn n = true then subS inn f l n - f n else subS inn f l n
def left0 (inn : Nat → Bool) (r : Nat → Int32) (owed : Int32) (m : Nat) : Int32 := if allS inn r m = 0 then 0 else owed
def leftS (inn : Nat → Bool) (r : Nat → Int32) (owed : Int32) (m : Nat) : Int32 := if 0 < left0 inn r owed m then subS inn (partS inn r owed m) (left0 inn r owed m) m else left0 inn r owed m
def shareS (inn : Nat → Bool) (r : Nat → Int32) (owed : Int32) (m p : Nat) : Int32 := if inn p = true then partS inn r owed m p + (if nI p = grE (grS inn r m) then leftS inn r owed m else 0) else 0
theorem grS_lt (inn : Nat → Bool) (r : Nat → Int32) : ∀ (n b : Nat), grS inn r n = some b → b < n
  | 0, b, e => by cases e
  | n + 1, b, e => by
    unfold grS at e
    by_cases hi : inn n = true
    · rw [if_pos hi] at e
      cases hg : grS inn r n with
      | none => rw [hg] at e; cases e; omega
      | some c =>
        rw [hg] at e
        have := grS_lt inn r n c hg
        dsimp only at e
        by_cases hr : r c < r n
        · rw [if_pos hr] at e; cases e; omega
        · rw [if_neg hr] at e; cases e; omega
    · rw [if_neg hi] at e
      have := grS_lt inn r n b e
      omega
theorem grE_none {o : Option Nat} {n : Nat} (hlt : ∀ b, o = some b → b < n) (hn : n < 1000) : grE o = -5 ↔ o = none := by
  cases o with
  | none => exact ⟨fun _ => rfl, fun _ => rfl⟩
  | some b =>
    refine ⟨fun e => ?_, fun e => by cases e⟩
    have hb := hlt b rfl
    have e2 := congrArg Int32.toInt (show nI b = -5 from e)
    rw [nI_toInt (by omega)] at e2
    have : ((-5 : Int32)).toInt = -5 := rfl
    omega
theorem c_rateHere {h : AH} {t m : Nat} {yd : Nat → Nat} (tm : Tm h t m yd) (p : Nat) (hp : p < m) : Con mX0_rateHere 0 0 0 [.ref 16, .ref t, .int (nI p)] h (retV (.int (rh h yd p)) h) nox := by
  have w := tm.w
  have h6 := tm.m6
  have hy := tm.y hp
  have hy10 := tm.y10 hp
  refine Con.of rfl rfl (Nat.le_of_ble_eq_true rfl) ?_
  refine s_aload_n 0 dX0_rateHere_0 rfl rfl ?_
  refine s_getP dX0_rateHere_1 fl_X0_84 (fo_1_20.at (wk_16 w)) (wp_16_20 w) ?_
  refine s_bipush (v := 10) dX0_rateHere_4 rfl ?_
  refine s_iload_n 2 dX0_rateHere_6 rfl rfl ?_
  refine s_imul dX0_rateHere_7 ?_
  refine s_aload_n 1 dX0_rateHere_8 rfl rfl ?_
  refine s_getP dX0_rateHere_9 fl_X0_153 (fo_2_1.at tm.k) tm.p1 ?_
  refine s_iload_n 2 dX0_rateHere_12 rfl rfl ?_
  refine s_bald (j := p) dX0_rateHere_13 tm.k2 (ixn (tm.n2) (ix_nI (by omega) (by decide))) ?_
  refine s_iadd dX0_rateHere_14 ?_
  refine s_iald (j := (10 * p + yd p)) dX0_rateHere_15 (wk_40 w) (ixn (wn_40 w) (ix_eq (by rw [hy]; exact nI_ma 10 p (yd p)) (by omega) (by decide))) ?_
  exact s_ireturn .int dX0_rateHere_16 rfl rfl ⟨rfl, rfl⟩
theorem allS_t {inn : Nat → Bool} {r : Nat → Int32} {n : Nat} (e : inn n = true) : allS inn r (n + 1) = allS inn r n + r n := if_pos e
theorem allS_f {inn : Nat → Bool} {r : Nat → Int32} {n : Nat} (e : inn n = false) : allS inn r (n + 1) = allS inn r n := if_neg (by rw [e]; exact Bool.false_ne_true)
theorem c_allRates {h : AH} {t m : Nat} {yd : Nat → Nat} (tm : Tm h t m yd) (set : Int32) : Con mX0_allRates 1 0 0 [.ref 16, .ref t, .int set] h (retV (.int (allS (bs set) (rh h yd) m)) h) nox := by
  have w := tm.w
  have h6 := tm.m6
  refine Con.of rfl rfl (Nat.le_of_ble_eq_true rfl) ?_
  refine s_iconst (v := 0) dX0_allRates_0 rfl ?_
  refine s_istore_n (ls' := [(3, _), (0, _), (1, _), (2, _)]) 3 dX0_allRates_1 rfl (by decide) rfl ?_
  refine s_iconst (v := 0) dX0_allRates_2 rfl ?_
  refine s_istore (ls' := [(4, _), (3, _), (0, _), (1, _), (2, _)]) dX0_allRates_3 (by decide) rfl ?_
  have L5 : ∀ p : Nat, p ≤ m → AW mX0_allRates 1 (retV (.int (allS (bs set) (rh h yd) m)) h) nox 0 0 5 [(4, .int (nI p)), (3, .int (allS (bs set) (rh h yd) p)), (0, .ref 16), (1, .ref t), (2, .int set)] [] h := by
    refine for_up (fun p hpp ih => ?_)
    refine s_iload dX0_allRates_5 rfl ?_
    refine s_aload_n 1 dX0_allRates_7 rfl rfl ?_
    refine s_getI dX0_allRates_8 fl_X0_115 (fo_2_3.at tm.k) ?_
    refine s_icmp_ge 39 dX0_allRates_11 (by decide) (fun c11 => ?_) (fun c11 => ?_)
    · skip
      have hge := le_ge tm.mm (by omega) (by omega) c11
      obtain rfl : p = m := by omega
      refine s_iload_n 3 dX0_allRates_39 rfl rfl ?_
      exact s_ireturn .int dX0_allRates_40 rfl rfl ⟨rfl, rfl⟩
    · skip
      have hlt := nle_lt tm.mm (by omega) (by omega) c11
      refine s_iload_n 2 dX0_allRates_14 rfl rfl ?_
      refine s_iload dX0_allRates_15 rfl ?_
      refine s_callS_p (M2 := mX0_isIn) dX0_allRates_17 q627 stX0_isIn rfl (c_isIn _ _ _) rfl rfl ⟨by decide, by decide, by decide⟩ (Nat.le_of_ble_eq_true rfl) ?_
      refine s_ifeq_b 33 dX0_allRates_20 (by decide) (fun c20 => ?_) (fun c20 => ?_)
      · skip
        refine s_iinc (v := nI (p + 1)) (ls' := [(4, _), (3, _), (0, _), (1, _), (2, _)]) dX0_allRates_33 rfl (nI_succ p).symm (by decide) rfl ?_
        refine s_goto 5 dX0_allRates_36 (by decide) ?_
        exact AW.lc (ih hlt ) ⟨rfl, (congrArg (fun x => some (Value.int x)) (allS_f c20).symm), rfl, rfl, rfl, trivial⟩
      · skip
        refine s_iload_n 3 dX0_allRates_23 rfl rfl ?_
        refine s_aload_n 0 dX0_allRates_24 rfl rfl ?_
        refine s_aload_n 1 dX0_allRates_25 rfl rfl ?_
        refine s_iload dX0_allRates_26 rfl ?_
        refine s_callV_p (M2 := mX0_rateHere) dX0_allRates_28 q636 bX0_rateHere inX0_rateHere.2 qs10 rfl (c_rateHere tm _ hlt) rfl rfl (rk (wk_16 w) rfl rfl) ⟨by decide, by decide, by decide⟩ (Nat.le_of_ble_eq_true rfl) ?_
        refine s_iadd dX0_allRates_31 ?_
        refine s_istore_n (ls' := [(3, _), (4, _), (0, _), (1, _), (2, _)]) 3 dX0_allRates_32 rfl (by decide) rfl ?_
        refine s_iinc (v := nI (p + 1)) (ls' := [(4, _), (3, _), (0, _), (1, _), (2, _)]) dX0_allRates_33 rfl (nI_succ p).symm (by decide) rfl ?_
        refine s_goto 5 dX0_allRates_36 (by decide) ?_
        exact AW.lc (ih hlt ) ⟨rfl, (congrArg (fun x => some (Value.int x)) (allS_t c20).symm), rfl, rfl, rfl, trivial⟩
  exact AW.lc (L5 0 (Nat.zero_le _) ) ⟨rfl, rfl, rfl, rfl, rfl, trivial⟩
theorem c_partOf {h : AH} {t m : Nat} {yd : Nat → Nat} (tm : Tm h t m yd) (p : Nat) (hlt : p < m) (set : Int32) : Con mX0_partOf 2 0 0 [.ref 16, .ref t, .int (nI p), .int set] h (retV (.int (partS (bs set) (rh h yd) (hI h t 5) m p)) h) nox := by
  have w := tm.w
  have h6 := tm.m6
  refine Con.of rfl rfl (Nat.le_of_ble_eq_true rfl) ?_
  refine s_aload_n 0 dX0_partOf_0 rfl rfl ?_
  refine s_aload_n 1 dX0_partOf_1 rfl rfl ?_
  refine s_iload_n 3 dX0_partOf_2 rfl rfl ?_
  refine s_callV_p (M2 := mX0_allRates) dX0_partOf_3 q632 bX0_allRates inX0_allRates.2 qs9 rfl (c_allRates tm _) rfl rfl (rk (wk_16 w) rfl rfl) ⟨by decide, by decide, by decide⟩ (Nat.le_of_ble_eq_true rfl) ?_
  refine s_istore (ls' := [(4, _), (0, _), (1, _), (2, _), (3, _)]) dX0_partOf_6 (by decide) rfl ?_
  refine s_iload dX0_partOf_8 rfl ?_
  refine s_if_ne 17 dX0_partOf_10 (by decide) (fun c10 => ?_) (fun c10 => ?_)
  · skip
    refine s_aload_n 1 dX0_partOf_17 rfl rfl ?_
    refine s_getI dX0_partOf_18 fl_X0_213 (fo_2_5.at tm.k) ?_
    refine s_aload_n 0 dX0_partOf_21 rfl rfl ?_
    refine s_aload_n 1 dX0_partOf_22 rfl rfl ?_
    refine s_iload_n 2 dX0_partOf_23 rfl rfl ?_
    refine s_callV_p (M2 := mX0_rateHere) dX0_partOf_24 q636 bX0_rateHere inX0_rateHere.2 qs10 rfl (c_rateHere tm _ hlt) rfl rfl (rk (wk_16 w) rfl rfl) ⟨by decide, by decide, by decide⟩ (Nat.le_of_ble_eq_true rfl) ?_
    refine s_imul dX0_partOf_27 ?_
    refine s_iload dX0_partOf_28 rfl ?_
    refine s_idiv dX0_partOf_30 c10 ?_
    exact s_ireturn .int dX0_partOf_31 rfl rfl (rve (if_neg c10))
  · skip
    refine s_iconst (v := 0) dX0_partOf_13 rfl ?_
    refine s_goto 31 dX0_partOf_14 (by decide) ?_
    exact s_ireturn .int dX0_partOf_31 rfl rfl (rve (if_pos c10))
theorem grS_f {inn : Nat → Bool} {r : Nat → Int32} {n : Nat} (e : inn n = false) : grS inn r (n + 1) = grS inn r n := if_neg (by rw [e]; exact Bool.false_ne_true)
theorem grS_n {inn : Nat → Bool} {r : Nat → Int32} {n : Nat} (e : inn n = true) (g : grS inn r n = none) : grS inn r (n + 1) = some n := by
  show (if inn n = true then _ else _) = _
  rw [if_pos e, g]
theorem grS_1 {inn : Nat → Bool} {r : Nat → Int32} {n b : Nat} (e : inn n = true) (g : grS inn r n = some b) (c : r b < r n) : grS inn r (n + 1) = some n := by
  show (if inn n = true then _ else _) = _
  rw [if_pos e, g]
  exact if_pos c
theorem grS_0 {inn : Nat → Bool} {r : Nat → Int32} {n b : Nat} (e : inn n = true) (g : grS inn r n = some b) (c : ¬ r b < r n) : grS inn r (n + 1) = some b := by
  show (if inn n = true then _ else _) = _
  rw [if_pos e, g]
  exact if_neg c
theorem grS_some {inn : Nat → Bool} {r : Nat → Int32} {n : Nat} (hn : n < 1000) (c : ¬ grE (grS inn r n) = -5) : ∃ b, grS inn r n = some b ∧ b < n ∧ grE (grS inn r n) = nI b := by
  cases g : grS inn r n with
  | none => rw [g] at c; exact absurd rfl c
  | some b => exact ⟨b, rfl, grS_lt inn r n b g, rfl⟩
theorem c_greatest {h : AH} {t m : Nat} {yd : Nat → Nat} (tm : Tm h t m yd) (set : Int32) : Con mX0_greatest 1 0 0 [.ref 16, .ref t, .int set] h (retV (.int (grE (grS (bs set) (rh h yd) m))) h) nox := by
  have w := tm.w
  have h6 := tm.m6
  refine Con.of rfl rfl (Nat.le_of_ble_eq_true rfl) ?_
  refine s_bipush (v := -5) dX0_greatest_0 rfl ?_
  refine s_istore_n (ls' := [(3, _), (0, _), (1, _), (2, _)]) 3 dX0_greatest_2 rfl (by decide) rfl ?_
  refine s_iconst (v := 0) dX0_greatest_3 rfl ?_
  refine s_istore (ls' := [(4, _), (3, _), (0, _), (1, _), (2, _)]) dX0_greatest_4 (by decide) rfl ?_
  have L6 : ∀ p : Nat, p ≤ m → AW mX0_greatest 1 (retV (.int (grE (grS (bs set) (rh h yd) m))) h) nox 0 0 6 [(4, .int (nI p)), (3, .int (grE (grS (bs set) (rh h yd) p))), (0, .ref 16), (1, .ref t), (2, .int set)] [] h := by
    refine for_up (fun p hpp ih => ?_)
    refine s_iload dX0_greatest_6 rfl ?_
    refine s_aload_n 1 dX0_greatest_8 rfl rfl ?_
    refine s_getI dX0_greatest_9 fl_X0_115 (fo_2_3.at tm.k) ?_
    refine s_icmp_ge 55 dX0_greatest_12 (by decide) (fun c12 => ?_) (fun c12 => ?_)
    · skip
      have hge := le_ge tm.mm (by omega) (by omega) c12
      obtain rfl : p = m := by omega
      refine s_iload_n 3 dX0_greatest_55 rfl rfl ?_
      exact s_ireturn .int dX0_greatest_56 rfl rfl ⟨rfl, rfl⟩
    · skip
      have hlt := nle_lt tm.mm (by omega) (by omega) c12
      refine s_iload_n 2 dX0_greatest_15 rfl rfl ?_
      refine s_iload dX0_greatest_16 rfl ?_
      refine s_callS_p (M2 := mX0_isIn) dX0_greatest_18 q627 stX0_isIn rfl (c_isIn _ _ _) rfl rfl ⟨by decide, by decide, by decide⟩ (Nat.le_of_ble_eq_true rfl) ?_
      refine s_ifeq_b 49 dX0_greatest_21 (by decide) (fun c21 => ?_) (fun c21 => ?_)
      · skip
        refine s_iinc (v := nI (p + 1)) (ls' := [(4, _), (3, _), (0, _), (1, _), (2, _)]) dX0_greatest_49 rfl (nI_succ p).symm (by decide) rfl ?_
        refine s_goto 6 dX0_greatest_52 (by decide) ?_
        exact AW.lc (ih hlt ) ⟨rfl, (congrArg (fun x => some (Value.int (grE x))) (grS_f c21).symm), rfl, rfl, rfl, trivial⟩
      · skip
        refine s_iload_n 3 dX0_greatest_24 rfl rfl ?_
        refine s_bipush (v := -5) dX0_greatest_25 rfl ?_
        refine s_icmp_eq 46 dX0_greatest_27 (by decide) (fun c27 => ?_) (fun c27 => ?_)
        · skip
          refine s_iload dX0_greatest_46 rfl ?_
          refine s_istore_n (ls' := [(3, _), (4, _), (0, _), (1, _), (2, _)]) 3 dX0_greatest_48 rfl (by decide) rfl ?_
          refine s_iinc (v := nI (p + 1)) (ls' := [(4, _), (3, _), (0, _), (1, _), (2, _)]) dX0_greatest_49 rfl (nI_succ p).symm (by decide) rfl ?_
          refine s_goto 6 dX0_greatest_52 (by decide) ?_
          exact AW.lc (ih hlt ) ⟨rfl, (congrArg (fun x => some (Value.int (grE x))) (grS_n c21 ((grE_none (grS_lt _ _ p) (by omega)).mp c27)).symm), rfl, rfl, rfl, trivial⟩
        · skip
          obtain ⟨b, hb, hbp, hbe⟩ := grS_some (by omega) c27
          rw [hbe]
          have hbm : b < m := by omega
          refine s_aload_n 0 dX0_greatest_30 rfl rfl ?_
          refine s_aload_n 1 dX0_greatest_31 rfl rfl ?_
          refine s_iload dX0_greatest_32 rfl ?_
          refine s_callV_p (M2 := mX0_rateHere) dX0_greatest_34 q636 bX0_rateHere inX0_rateHere.2 qs10 rfl (c_rateHere tm _ hlt) rfl rfl (rk (wk_16 w) rfl rfl) ⟨by decide, by decide, by decide⟩ (Nat.le_of_ble_eq_true rfl) ?_
          refine s_aload_n 0 dX0_greatest_37 rfl rfl ?_
          refine s_aload_n 1 dX0_greatest_38 rfl rfl ?_
          refine s_iload_n 3 dX0_greatest_39 rfl rfl ?_
          refine s_callV_p (M2 := mX0_rateHere) dX0_greatest_40 q636 bX0_rateHere inX0_rateHere.2 qs10 rfl (c_rateHere tm _ hbm) rfl rfl (rk (wk_16 w) rfl rfl) ⟨by decide, by decide, by decide⟩ (Nat.le_of_ble_eq_true rfl) ?_
          refine s_icmp_le 49 dX0_greatest_43 (by decide) (fun c43 => ?_) (fun c43 => ?_)
          · skip
            refine s_iinc (v := nI (p + 1)) (ls' := [(4, _), (3, _), (0, _), (1, _), (2, _)]) dX0_greatest_49 rfl (nI_succ p).symm (by decide) rfl ?_
            refine s_goto 6 dX0_greatest_52 (by decide) ?_
            exact AW.lc (ih hlt ) ⟨rfl, (congrArg (fun x => some (Value.int (grE x))) (grS_0 c21 hb (Int32.not_lt.mpr c43)).symm), rfl, rfl, rfl, trivial⟩
          · skip
            refine s_iload dX0_greatest_46 rfl ?_
            refine s_istore_n (ls' := [(3, _), (4, _), (0, _), (1, _), (2, _)]) 3 dX0_greatest_48 rfl (by decide) rfl ?_
            refine s_iinc (v := nI (p + 1)) (ls' := [(4, _), (3, _), (0, _), (1, _), (2, _)]) dX0_greatest_49 rfl (nI_succ p).symm (by decide) rfl ?_
            refine s_goto 6 dX0_greatest_52 (by decide) ?_
            exact AW.lc (ih hlt ) ⟨rfl, (congrArg (fun x => some (Value.int (grE x))) (grS_1 c21 hb (Int32.not_le.mp c43)).symm), rfl, rfl, rfl, trivial⟩
  exact AW.lc (L6 0 (Nat.zero_le _) ) ⟨rfl, rfl, rfl, rfl, rfl, trivial⟩
section LF
variable {inn : Nat → Bool} {r : Nat → Int32} {owed : Int32} {m p : Nat}
theorem left_0 (e : allS inn r m = 0) : leftS inn r owed m = 0 := by unfold leftS left0; rw [if_pos e]; exact if_neg (by decide)
theorem left_1 (e : ¬ allS inn r m = 0) (c : owed ≤ 0) : leftS inn r owed m = owed := by unfold leftS left0; rw [if_neg e]; exact if_neg (Int32.not_lt.mpr c)
theorem left_2 (e : ¬ allS inn r m = 0) (c : ¬ owed ≤ 0) : leftS inn r owed m = subS inn (partS inn r owed m) owed m := by unfold leftS left0; rw [if_neg e]; exact if_pos (Int32.not_le.mp c)
theorem subS_t {f : Nat → Int32} {l : Int32} {n : Nat} (e : inn n = true) : subS inn f l (n + 1) = subS inn f l n - f n := if_pos e
theorem subS_f {f : Nat → Int32} {l : Int32} {n : Nat} (e : inn n = false) : subS inn f l (n + 1) = subS inn f l n := if_neg (by rw [e]; exact Bool.false_ne_true)
theorem share_0 (e : inn p = false) : shareS inn r owed m p = 0 := if_neg (by rw [e]; exact Bool.false_ne_true)
theorem share_1 (e : inn p = true) (c : nI p = grE (grS inn r m)) : shareS inn r owed m p = partS inn r owed m p + leftS inn r owed m := by unfold shareS; rw [if_pos e, if_pos c]
theorem share_2 (e : inn p = true) (c : ¬ nI p = grE (grS inn r m)) : shareS inn r owed m p = partS inn r owed m p + 0 := by unfold shareS; rw [if_pos e, if_neg c]
end LF
theorem c_leftOver {h : AH} {t m : Nat} {yd : Nat → Nat} (tm : Tm h t m yd) (set : Int32) : Con mX0_leftOver 3 0 0 [.ref 16, .ref t, .int set] h (retV (.int (leftS (bs set) (rh h yd) (hI h t 5) m)) h) nox := by
  have w := tm.w
  have h6 := tm.m6
  refine Con.of rfl rfl (Nat.le_of_ble_eq_true rfl) ?_
  refine s_aload_n 0 dX0_leftOver_0 rfl rfl ?_
  refine s_aload_n 1 dX0_leftOver_1 rfl rfl ?_
  refine s_iload_n 2 dX0_leftOver_2 rfl rfl ?_
  refine s_callV_p (M2 := mX0_allRates) dX0_leftOver_3 q632 bX0_allRates inX0_allRates.2 qs9 rfl (c_allRates tm _) rfl rfl (rk (wk_16 w) rfl rfl) ⟨by decide, by decide, by decide⟩ (Nat.le_of_ble_eq_true rfl) ?_
  refine s_if_ne 13 dX0_leftOver_6 (by decide) (fun c6 => ?_) (fun c6 => ?_)
  · skip
    refine s_aload_n 1 dX0_leftOver_13 rfl rfl ?_
    refine s_getI dX0_leftOver_14 fl_X0_213 (fo_2_5.at tm.k) ?_
    refine s_istore_n (ls' := [(3, _), (0, _), (1, _), (2, _)]) 3 dX0_leftOver_17 rfl (by decide) rfl ?_
    refine s_iload_n 3 dX0_leftOver_18 rfl rfl ?_
    refine s_if_le 60 dX0_leftOver_19 (by decide) (fun c19 => ?_) (fun c19 => ?_)
    · skip
      refine s_iload_n 3 dX0_leftOver_60 rfl rfl ?_
      exact s_ireturn .int dX0_leftOver_61 rfl rfl (rve (left_1 c6 c19))
    · skip
      refine s_iconst (v := 0) dX0_leftOver_22 rfl ?_
      refine s_istore (ls' := [(4, _), (3, _), (0, _), (1, _), (2, _)]) dX0_leftOver_23 (by decide) rfl ?_
      have L25 : ∀ p : Nat, p ≤ m → AW mX0_leftOver 3 (retV (.int (leftS (bs set) (rh h yd) (hI h t 5) m)) h) nox 0 0 25 [(4, .int (nI p)), (3, .int (subS (bs set) (partS (bs set) (rh h yd) (hI h t 5) m) (hI h t 5) p)), (0, .ref 16), (1, .ref t), (2, .int set)] [] h := by
        refine for_up (fun p hpp ih => ?_)
        refine s_iload dX0_leftOver_25 rfl ?_
        refine s_aload_n 1 dX0_leftOver_27 rfl rfl ?_
        refine s_getI dX0_leftOver_28 fl_X0_115 (fo_2_3.at tm.k) ?_
        refine s_icmp_ge 60 dX0_leftOver_31 (by decide) (fun c31 => ?_) (fun c31 => ?_)
        · skip
          have hge := le_ge tm.mm (by omega) (by omega) c31
          obtain rfl : p = m := by omega
          refine s_iload_n 3 dX0_leftOver_60 rfl rfl ?_
          exact s_ireturn .int dX0_leftOver_61 rfl rfl (rve (left_2 c6 c19))
        · skip
          have hlt := nle_lt tm.mm (by omega) (by omega) c31
          refine s_iload_n 2 dX0_leftOver_34 rfl rfl ?_
          refine s_iload dX0_leftOver_35 rfl ?_
          refine s_callS_p (M2 := mX0_isIn) dX0_leftOver_37 q627 stX0_isIn rfl (c_isIn _ _ _) rfl rfl ⟨by decide, by decide, by decide⟩ (Nat.le_of_ble_eq_true rfl) ?_
          refine s_ifeq_b 54 dX0_leftOver_40 (by decide) (fun c40 => ?_) (fun c40 => ?_)
          · skip
            refine s_iinc (v := nI (p + 1)) (ls' := [(4, _), (3, _), (0, _), (1, _), (2, _)]) dX0_leftOver_54 rfl (nI_succ p).symm (by decide) rfl ?_
            refine s_goto 25 dX0_leftOver_57 (by decide) ?_
            exact AW.lc (ih hlt ) ⟨rfl, (congrArg (fun x => some (Value.int x)) (subS_f c40).symm), rfl, rfl, rfl, trivial⟩
          · skip
            refine s_iload_n 3 dX0_leftOver_43 rfl rfl ?_
            refine s_aload_n 0 dX0_leftOver_44 rfl rfl ?_
            refine s_aload_n 1 dX0_leftOver_45 rfl rfl ?_
            refine s_iload dX0_leftOver_46 rfl ?_
            refine s_iload_n 2 dX0_leftOver_48 rfl rfl ?_
            refine s_callV_p (M2 := mX0_partOf) dX0_leftOver_49 q628 bX0_partOf inX0_partOf.2 qs8 rfl (c_partOf tm _ hlt _) rfl rfl (rk (wk_16 w) rfl rfl) ⟨by decide, by decide, by decide⟩ (Nat.le_of_ble_eq_true rfl) ?_
            refine s_isub dX0_leftOver_52 ?_
            refine s_istore_n (ls' := [(3, _), (4, _), (0, _), (1, _), (2, _)]) 3 dX0_leftOver_53 rfl (by decide) rfl ?_
            refine s_iinc (v := nI (p + 1)) (ls' := [(4, _), (3, _), (0, _), (1, _), (2, _)]) dX0_leftOver_54 rfl (nI_succ p).symm (by decide) rfl ?_
            refine s_goto 25 dX0_leftOver_57 (by decide) ?_
            exact AW.lc (ih hlt ) ⟨rfl, (congrArg (fun x => some (Value.int x)) (subS_t c40).symm), rfl, rfl, rfl, trivial⟩
      exact AW.lc (L25 0 (Nat.zero_le _) ) ⟨rfl, rfl, rfl, rfl, rfl, trivial⟩
  · skip
    refine s_iconst (v := 0) dX0_leftOver_9 rfl ?_
    refine s_goto 17 dX0_leftOver_10 (by decide) ?_
    refine s_istore_n (ls' := [(3, _), (0, _), (1, _), (2, _)]) 3 dX0_leftOver_17 rfl (by decide) rfl ?_
    refine s_iload_n 3 dX0_leftOver_18 rfl rfl ?_
    refine s_if_le 60 dX0_leftOver_19 (by decide) (fun c19 => ?_) (fun c19 => ?_)
    · skip
      refine s_iload_n 3 dX0_leftOver_60 rfl rfl ?_
      exact s_ireturn .int dX0_leftOver_61 rfl rfl (rve (left_0 c6))
    · exact absurd (by decide) c19
theorem c_shareOf {h : AH} {t m : Nat} {yd : Nat → Nat} (tm : Tm h t m yd) (p : Nat) (hlt : p < m) (set : Int32) : Con mX0_shareOf 4 0 0 [.ref 16, .ref t, .int (nI p), .int set] h (retV (.int (shareS (bs set) (rh h yd) (hI h t 5) m p)) h) nox := by
  have w := tm.w
  have h6 := tm.m6
  refine Con.of rfl rfl (Nat.le_of_ble_eq_true rfl) ?_
  refine s_iload_n 3 dX0_shareOf_0 rfl rfl ?_
  refine s_iload_n 2 dX0_shareOf_1 rfl rfl ?_
  refine s_callS_p (M2 := mX0_isIn) dX0_shareOf_2 q627 stX0_isIn rfl (c_isIn _ _ _) rfl rfl ⟨by decide, by decide, by decide⟩ (Nat.le_of_ble_eq_true rfl) ?_
  refine s_ifeq_b 39 dX0_shareOf_5 (by decide) (fun c5 => ?_) (fun c5 => ?_)
  · skip
    refine s_iconst (v := 0) dX0_shareOf_39 rfl ?_
    exact s_ireturn .int dX0_shareOf_40 rfl rfl (rve (share_0 c5))
  · skip
    refine s_aload_n 0 dX0_shareOf_8 rfl rfl ?_
    refine s_aload_n 1 dX0_shareOf_9 rfl rfl ?_
    refine s_iload_n 2 dX0_shareOf_10 rfl rfl ?_
    refine s_iload_n 3 dX0_shareOf_11 rfl rfl ?_
    refine s_callV_p (M2 := mX0_partOf) dX0_shareOf_12 q628 bX0_partOf inX0_partOf.2 qs8 rfl (c_partOf tm _ hlt _) rfl rfl (rk (wk_16 w) rfl rfl) ⟨by decide, by decide, by decide⟩ (Nat.le_of_ble_eq_true rfl) ?_
    refine s_iload_n 2 dX0_shareOf_15 rfl rfl ?_
    refine s_aload_n 0 dX0_shareOf_16 rfl rfl ?_
    refine s_aload_n 1 dX0_shareOf_17 rfl rfl ?_
    refine s_iload_n 3 dX0_shareOf_18 rfl rfl ?_
    refine s_callV_p (M2 := mX0_greatest) dX0_shareOf_19 q640 bX0_greatest inX0_greatest.2 qs11 rfl (c_greatest tm _) rfl rfl (rk (wk_16 w) rfl rfl) ⟨by decide, by decide, by decide⟩ (Nat.le_of_ble_eq_true rfl) ?_
    refine s_icmp_ne 34 dX0_shareOf_22 (by decide) (fun c22 => ?_) (fun c22 => ?_)
    · skip
      refine s_iconst (v := 0) dX0_shareOf_34 rfl ?_
      refine s_iadd dX0_shareOf_35 ?_
      refine s_goto 40 dX0_shareOf_36 (by decide) ?_
      exact s_ireturn .int dX0_shareOf_40 rfl rfl (rve (share_2 c5 c22))
    · skip
      refine s_aload_n 0 dX0_shareOf_25 rfl rfl ?_
      refine s_aload_n 1 dX0_shareOf_26 rfl rfl ?_
      refine s_iload_n 3 dX0_shareOf_27 rfl rfl ?_
      refine s_callV_p (M2 := mX0_leftOver) dX0_shareOf_28 q644 bX0_leftOver inX0_leftOver.2 qs12 rfl (c_leftOver tm _) rfl rfl (rk (wk_16 w) rfl rfl) ⟨by decide, by decide, by decide⟩ (Nat.le_of_ble_eq_true rfl) ?_
      refine s_goto 35 dX0_shareOf_31 (by decide) ?_
      refine s_iadd dX0_shareOf_35 ?_
      refine s_goto 40 dX0_shareOf_36 (by decide) ?_
      exact s_ireturn .int dX0_shareOf_40 rfl rfl (rve (share_1 c5 c22))
def upN (yd : Nat → Nat) (p y : Nat) : Nat → Nat := fun q => if q = p then y else yd q
theorem nI_b : ∀ y, y < 128 → (nI y).toInt8.toInt32 = nI y := by decide +kernel
theorem sI_back {h : AH} {a f : Nat} {v : Int32} : sI (sI h a f v) a f (hI h a f) = h := by
  obtain ⟨k, n, i, r⟩ := h
  have e : up2 (up2 i a f v) a f (i a f) = i := by
    funext b g
    unfold up2
    by_cases hb : b = a ∧ g = f
    · rw [if_pos hb, hb.1, hb.2]
    · rw [if_neg hb, if_neg hb]
  show (k, n, up2 (up2 i a f v) a f (i a f), r) = _
  rw [e]
theorem sI_2 {h : AH} {a f : Nat} {v w : Int32} : sI (sI h a f v) a f w = sI h a f w := by
  obtain ⟨k, n, i, r⟩ := h
  have e : up2 (up2 i a f v) a f w = up2 i a f w := by
    funext b g
    unfold up2
    by_cases hb : b = a ∧ g = f
    · rw [if_pos hb, if_pos hb]
    · rw [if_neg hb, if_neg hb, if_neg hb]
  show (k, n, up2 (up2 i a f v) a f w, r) = (k, n, up2 i a f w, r)
  rw [e]
theorem Tm.set {h : AH} {t m p y : Nat} {yd : Nat → Nat} (tm : Tm h t m yd) (hp : p < m) (hy : y < 10) : Tm (sI h (t + 2) p (nI y)) t m (upN yd p y) := by
  refine ⟨tm.1, tm.2.1, tm.2.2.1, ?_, fun q hq => ?_⟩
  · rw [hI_sI_ne (by omega)]; exact tm.mm
  · unfold upN
    by_cases e : q = p
    · subst e
      rw [if_pos rfl, hI_sI]
      exact ⟨rfl, hy⟩
    · rw [if_neg e, hI_sI_ne (by omega)]
      exact ⟨tm.y hq, tm.y10 hq⟩
/-- all who are there, and p -/
def setW (h : AH) (t p : Nat) : Int32 := presS (hI h t 3) (hI h t 4) ||| (1 <<< (nI p &&& 31))
def wS (h : AH) (t m : Nat) (yd : Nat → Nat) (p y : Nat) : Int32 := hI h (t + 1) p * (10 - nI y) - shareS (bs (setW h t p)) (rh h (upN yd p y)) (hI h t 5) m p
theorem wS_set {h : AH} {t m p y : Nat} {yd yd' : Nat → Nat} {v : Int32} (tm : Tm h t m yd) : hI (sI h (t + 2) p v) (t + 1) p * (10 - nI y) - shareS (bs (presS (hI (sI h (t + 2) p v) t 3) (hI (sI h (t + 2) p v) t 4) ||| ((1 : Int32) <<< (nI p &&& 31)))) (rh (sI h (t + 2) p v) yd') (hI (sI h (t + 2) p v) t 5) m p = hI h (t + 1) p * (10 - nI y) - shareS (bs (setW h t p)) (rh h yd') (hI h t 5) m p := by
  have e : rh (sI h (t + 2) p v) yd' = rh h yd' := by
    funext q
    unfold rh
    rw [hI_sI_ne (by have := tm.2.1; omega)]
  rw [e, hI_sI_ne (by omega), hI_sI_ne (by omega), hI_sI_ne (by omega), hI_sI_ne (by omega)]
  rfl
theorem c_worthOf {h : AH} {t m : Nat} {yd : Nat → Nat} (tm : Tm h t m yd) (p : Nat) (hlt : p < m) (y : Nat) (hy : y < 10) : Con mX0_worthOf 5 0 0 [.ref 16, .ref t, .int (nI p), .int (nI y)] h (retV (.int (wS h t m yd p y)) h) nox := by
  have w := tm.w
  have h6 := tm.m6
  have hyp := tm.y hlt
  have hyp10 := tm.y10 hlt
  have tm2 := tm.set hlt hy
  refine Con.of rfl rfl (Nat.le_of_ble_eq_true rfl) ?_
  refine s_aload_n 1 dX0_worthOf_0 rfl rfl ?_
  refine s_getP dX0_worthOf_1 fl_X0_153 (fo_2_1.at tm.k) tm.p1 ?_
  refine s_iload_n 2 dX0_worthOf_4 rfl rfl ?_
  refine s_bald (j := p) dX0_worthOf_5 tm.k2 (ixn (tm.n2) (ix_nI (by omega) (by decide))) ?_
  refine s_istore (ls' := [(4, _), (0, _), (1, _), (2, _), (3, _)]) dX0_worthOf_6 (by decide) rfl ?_
  refine s_aload_n 1 dX0_worthOf_8 rfl rfl ?_
  refine s_getP dX0_worthOf_9 fl_X0_153 (fo_2_1.at tm.k) tm.p1 ?_
  refine s_iload_n 2 dX0_worthOf_12 rfl rfl ?_
  refine s_iload_n 3 dX0_worthOf_13 rfl rfl ?_
  refine s_i2b dX0_worthOf_14 ?_
  refine s_bast (j := p) dX0_worthOf_15 tm.k2 (by have := tm.t16; omega) (ixn (tm.n2) (ix_nI (by omega) (by decide))) ?_
  rw [nI_b y (by omega), nI_b y (by omega)]
  refine s_aload_n 1 dX0_worthOf_16 rfl rfl ?_
  refine s_getP dX0_worthOf_17 fl_X0_150 (fo_2_0.at tm.k) tm.p0 ?_
  refine s_iload_n 2 dX0_worthOf_20 rfl rfl ?_
  refine s_bald (j := p) dX0_worthOf_21 tm.k1 (ixn (tm.n1) (ix_nI (by omega) (by decide))) ?_
  refine s_bipush (v := 10) dX0_worthOf_22 rfl ?_
  refine s_iload_n 3 dX0_worthOf_24 rfl rfl ?_
  refine s_isub dX0_worthOf_25 ?_
  refine s_imul dX0_worthOf_26 ?_
  refine s_aload_n 0 dX0_worthOf_27 rfl rfl ?_
  refine s_aload_n 1 dX0_worthOf_28 rfl rfl ?_
  refine s_iload_n 2 dX0_worthOf_29 rfl rfl ?_
  refine s_aload_n 1 dX0_worthOf_30 rfl rfl ?_
  refine s_callV_p (M2 := mX1_present) dX0_worthOf_31 q619 bX1_present inX1_present.2 q621 rfl (c_present _ _ tm.k) rfl rfl (rk tm.k rfl rfl) ⟨by decide, by decide, by decide⟩ (Nat.le_of_ble_eq_true rfl) ?_
  refine s_iconst (v := 1) dX0_worthOf_34 rfl ?_
  refine s_iload_n 2 dX0_worthOf_35 rfl rfl ?_
  refine s_ishl dX0_worthOf_36 ?_
  refine s_ior dX0_worthOf_37 ?_
  refine s_callV_p (M2 := mX0_shareOf) dX0_worthOf_38 q623 bX0_shareOf inX0_shareOf.2 qs7 rfl (c_shareOf tm2 _ hlt _) rfl rfl (rk (wk_16 w) rfl rfl) ⟨by decide, by decide, by decide⟩ (Nat.le_of_ble_eq_true rfl) ?_
  refine s_isub dX0_worthOf_41 ?_
  refine s_istore (ls' := [(5, _), (4, _), (0, _), (1, _), (2, _), (3, _)]) dX0_worthOf_42 (by decide) rfl ?_
  refine s_aload_n 1 dX0_worthOf_44 rfl rfl ?_
  refine s_getP dX0_worthOf_45 fl_X0_153 (fo_2_1.at tm.k) tm.p1 ?_
  refine s_iload_n 2 dX0_worthOf_48 rfl rfl ?_
  refine s_iload dX0_worthOf_49 rfl ?_
  refine s_i2b dX0_worthOf_51 ?_
  refine s_bast (j := p) dX0_worthOf_52 tm.k2 (by have := tm.t16; omega) (ixn (tm.n2) (ix_nI (by omega) (by decide))) ?_
  rw [hyp, nI_b _ (by omega), nI_b _ (by omega), ← hyp, sI_back]
  refine s_iload dX0_worthOf_53 rfl ?_
  exact s_ireturn .int dX0_worthOf_55 rfl rfl (rve (wS_set tm).symm)
/-- the best place: the least at which f is greatest, and f there -/
def bst (f : Nat → Int32) : Nat → Nat × Int32
  | 0 => (0, f 0)
  | n + 1 => if (bst f n).2 < f (n + 1) then (n + 1, f (n + 1)) else bst f n
theorem bst_t {f : Nat → Int32} {n : Nat} (c : (bst f n).2 < f (n + 1)) : bst f (n + 1) = (n + 1, f (n + 1)) := if_pos c
theorem bst_f {f : Nat → Int32} {n : Nat} (c : ¬ (bst f n).2 < f (n + 1)) : bst f (n + 1) = bst f n := if_neg c
theorem bst_le (f : Nat → Int32) : ∀ n, (bst f n).1 ≤ n
  | 0 => Nat.le_refl _
  | n + 1 => by
    by_cases c : (bst f n).2 < f (n + 1)
    · rw [bst_t c]; exact Nat.le_refl _
    · rw [bst_f c]; have := bst_le f n; omega
theorem c_bestOf {h : AH} {t m : Nat} {yd : Nat → Nat} (tm : Tm h t m yd) (p : Nat) (hlt : p < m) : Con mX0_bestOf 6 0 0 [.ref 16, .ref t, .int (nI p)] h (retV (.int (nI (bst (wS h t m yd p) 9).1)) h) nox := by
  have w := tm.w
  have h6 := tm.m6
  refine Con.of rfl rfl (Nat.le_of_ble_eq_true rfl) ?_
  refine s_iconst (v := 0) dX0_bestOf_0 rfl ?_
  refine s_istore_n (ls' := [(3, _), (0, _), (1, _), (2, _)]) 3 dX0_bestOf_1 rfl (by decide) rfl ?_
  refine s_aload_n 0 dX0_bestOf_2 rfl rfl ?_
  refine s_aload_n 1 dX0_bestOf_3 rfl rfl ?_
  refine s_iload_n 2 dX0_bestOf_4 rfl rfl ?_
  refine s_iconst (v := 0) dX0_bestOf_5 rfl ?_
  refine s_callV_p (M2 := mX0_worthOf) dX0_bestOf_6 q615 bX0_worthOf inX0_worthOf.2 qs6 rfl (c_worthOf tm _ hlt 0 (by omega)) rfl rfl (rk (wk_16 w) rfl rfl) ⟨by decide, by decide, by decide⟩ (Nat.le_of_ble_eq_true rfl) ?_
  refine s_istore (ls' := [(4, _), (3, _), (0, _), (1, _), (2, _)]) dX0_bestOf_9 (by decide) rfl ?_
  refine s_iconst (v := 1) dX0_bestOf_11 rfl ?_
  refine s_istore (ls' := [(5, _), (4, _), (3, _), (0, _), (1, _), (2, _)]) dX0_bestOf_12 (by decide) rfl ?_
  have L14 : ∀ k : Nat, k ≤ 9 → AW mX0_bestOf 6 (retV (.int (nI (bst (wS h t m yd p) 9).1)) h) nox 0 0 14 [(5, .int (nI (k + 1))), (4, .int (bst (wS h t m yd p) k).2), (3, .int (nI (bst (wS h t m yd p) k).1)), (0, .ref 16), (1, .ref t), (2, .int (nI p))] [] h := by
    refine for_up (fun k hpk ih => ?_)
    refine s_iload dX0_bestOf_14 rfl ?_
    refine s_bipush (v := 10) dX0_bestOf_16 rfl ?_
    refine s_icmp_ge 54 dX0_bestOf_18 (by decide) (fun c18 => ?_) (fun c18 => ?_)
    · skip
      have hge := le_ge (y := 10) (m := 10) rfl (by omega) (by omega) c18
      obtain rfl : k = 9 := by omega
      refine s_iload_n 3 dX0_bestOf_54 rfl rfl ?_
      exact s_ireturn .int dX0_bestOf_55 rfl rfl ⟨rfl, rfl⟩
    · skip
      have hk10 := nle_lt (y := 10) (m := 10) rfl (by omega) (by omega) c18
      refine s_aload_n 0 dX0_bestOf_21 rfl rfl ?_
      refine s_aload_n 1 dX0_bestOf_22 rfl rfl ?_
      refine s_iload_n 2 dX0_bestOf_23 rfl rfl ?_
      refine s_iload dX0_bestOf_24 rfl ?_
      refine s_callV_p (M2 := mX0_worthOf) dX0_bestOf_26 q615 bX0_worthOf inX0_worthOf.2 qs6 rfl (c_worthOf tm _ hlt _ (by omega)) rfl rfl (rk (wk_16 w) rfl rfl) ⟨by decide, by decide, by decide⟩ (Nat.le_of_ble_eq_true rfl) ?_
      refine s_istore (ls' := [(6, _), (5, _), (4, _), (3, _), (0, _), (1, _), (2, _)]) dX0_bestOf_29 (by decide) rfl ?_
      refine s_iload dX0_bestOf_31 rfl ?_
      refine s_iload dX0_bestOf_33 rfl ?_
      refine s_icmp_gt 41 dX0_bestOf_35 (by decide) (fun c35 => ?_) (fun c35 => ?_)
      · skip
        refine s_iload dX0_bestOf_41 rfl ?_
        refine s_istore (ls' := [(4, _), (6, _), (5, _), (3, _), (0, _), (1, _), (2, _)]) dX0_bestOf_43 (by decide) rfl ?_
        refine s_iload dX0_bestOf_45 rfl ?_
        refine s_istore_n (ls' := [(3, _), (4, _), (6, _), (5, _), (0, _), (1, _), (2, _)]) 3 dX0_bestOf_47 rfl (by decide) rfl ?_
        refine s_iinc (v := nI ((k + 1) + 1)) (ls' := [(5, _), (3, _), (4, _), (6, _), (0, _), (1, _), (2, _)]) dX0_bestOf_48 rfl (nI_succ ((k + 1))).symm (by decide) rfl ?_
        refine s_goto 14 dX0_bestOf_51 (by decide) ?_
        exact AW.lc (ih (by omega) ) ⟨rfl, (congrArg (fun x : Nat × Int32 => some (Value.int x.2)) (bst_t c35).symm), (congrArg (fun x : Nat × Int32 => some (Value.int (nI x.1))) (bst_t c35).symm), rfl, rfl, rfl, trivial⟩
      · skip
        refine s_goto 48 dX0_bestOf_38 (by decide) ?_
        refine s_iinc (v := nI ((k + 1) + 1)) (ls' := [(5, _), (6, _), (4, _), (3, _), (0, _), (1, _), (2, _)]) dX0_bestOf_48 rfl (nI_succ ((k + 1))).symm (by decide) rfl ?_
        refine s_goto 14 dX0_bestOf_51 (by decide) ?_
        exact AW.lc (ih (by omega) ) ⟨rfl, (congrArg (fun x : Nat × Int32 => some (Value.int x.2)) (bst_f c35).symm), (congrArg (fun x : Nat × Int32 => some (Value.int (nI x.1))) (bst_f (Int32.not_lt.mpr (Int32.not_lt.mp c35))).symm), rfl, rfl, rfl, trivial⟩
  exact AW.lc (L14 0 (Nat.zero_le _) ) ⟨rfl, rfl, rfl, rfl, rfl, rfl, trivial⟩
