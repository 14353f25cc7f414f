/-! the component: odds, means -/
set_option maxRecDepth 100000
theorem rem64 {a b : Int64} (ha : 0 ≤ a.toInt) (ha2 : a.toInt < 2 ^ 31) (hb : 0 < b.toInt) (hb2 : b.toInt < 2 ^ 31) : (a - a / b * b).toInt = a.toInt % b.toInt := by
  have h1 : (a / b).toInt = a.toInt / b.toInt := by
    rw [Int64.toInt_div]
    rw [Int.tdiv_eq_ediv_of_nonneg ha]
    have h0 := Int.ediv_nonneg ha (by omega : 0 ≤ b.toInt)
    have h3 := Int.ediv_le_self b.toInt ha
    apply Int.bmod_eq_of_le <;> omega
  have hd := Int.mul_ediv_add_emod a.toInt b.toInt
  have hm0 := Int.emod_nonneg a.toInt (by omega : b.toInt ≠ 0)
  have hml := Int.emod_lt_of_pos a.toInt hb
  have h2 : (a / b * b).toInt = a.toInt / b.toInt * b.toInt := by
    rw [Int64.toInt_mul, h1]
    have e : a.toInt / b.toInt * b.toInt = b.toInt * (a.toInt / b.toInt) := Int.mul_comm _ _
    rw [e]
    have h0 := Int.mul_nonneg (by omega : 0 ≤ b.toInt) (Int.ediv_nonneg ha (by omega : 0 ≤ b.toInt))
    apply Int.bmod_eq_of_le <;> omega
  rw [Int64.toInt_sub, h2]
  have e : a.toInt / b.toInt * b.toInt = b.toInt * (a.toInt / b.toInt) := Int.mul_comm _ _
  rw [e]
  have : a.toInt - b.toInt * (a.toInt / b.toInt) = a.toInt % b.toInt := by omega
  rw [this]
  apply Int.bmod_eq_of_le <;> omega
/-- Euclid's way, some steps of it -/
def gcF : Nat → Int64 → Int64 → Int64
  | 0, a, _ => a
  | n + 1, a, b => if b = 0 then a else gcF n b (a - a / b * b)
theorem j0 {b : Int64} (h : b.toInt = 0) : b = 0 := Int64.toInt_inj.mp h
theorem gcF_0 {n : Nat} {a : Int64} : gcF n a 0 = a := by cases n <;> rfl
theorem gcF_s {n : Nat} {a b : Int64} (hb : ¬ b = 0) : gcF (n + 1) a b = gcF n b (a - a / b * b) := if_neg hb
theorem gcF_pos : ∀ {n : Nat} {a b : Int64}, 0 ≤ a.toInt → a.toInt < 2 ^ 31 → 0 ≤ b.toInt → b.toInt < 2 ^ 31 → (0 < a.toInt ∨ 0 < b.toInt) → b.toInt ≤ n → 0 < (gcF n a b).toInt
  | 0, a, b, h1, _, h2, _, h3, h4 => by
    show 0 < a.toInt
    omega
  | n + 1, a, b, h1, h1', h2, h2', h3, h4 => by
    by_cases c : b = 0
    · subst c
      rw [gcF_0]
      have : (0 : Int64).toInt = 0 := rfl
      omega
    · have hb : 0 < b.toInt := by
        rcases Int.lt_or_eq_of_le h2 with y | y
        · exact y
        · exact absurd (j0 y.symm) c
      rw [gcF_s c]
      have hr := rem64 h1 h1' hb h2'
      have hm0 := Int.emod_nonneg a.toInt (by omega : b.toInt ≠ 0)
      have hml := Int.emod_lt_of_pos a.toInt hb
      exact gcF_pos h2 h2' (by omega) (by omega) (Or.inl hb) (by omega)
def loE (up low : Int64) (part : Int32) : Int64 := (if part = 0 then up else low) / gcF 1000 up low
theorem lcmp_0 {x : Int64} : lg_cmp x 0 = 0 ↔ x = 0 := by
  unfold lg_cmp
  by_cases c : x = 0
  · subst c; decide
  · constructor
    · intro h
      exfalso
      split at h
      all_goals first | exact absurd h (by decide) | contradiction
    · intro h; exact absurd h c
theorem c_divisor {h : AH} (a b : Int64) (ha : 0 ≤ a.toInt) (ha2 : a.toInt < 2 ^ 31) (hb : 0 ≤ b.toInt) (hb2 : b.toInt ≤ 1000) : Con mX0_divisor 0 0 0 [.long a, .long b] h (retV (.long (gcF 1000 a b)) h) nox := by
  refine Con.of rfl rfl (Nat.le_of_ble_eq_true rfl) ?_
  refine s_lload_n 0 dX0_divisor_0 rfl rfl ?_
  refine s_lstore (ls' := [(4, _), (0, _), (2, _)]) dX0_divisor_1 (by decide) rfl ?_
  have L3 : ∀ k : Nat, k ≤ 1000 → ∀ x y : Int64, 0 ≤ x.toInt → x.toInt < 2 ^ 31 → 0 ≤ y.toInt → y.toInt + k ≤ 1000 → gcF 1000 a b = gcF (1000 - k) x y → AW mX0_divisor 0 (retV (.long (gcF 1000 a b)) h) nox 0 0 3 [(4, .long x), (2, .long y)] [] h := by
    refine for_up (fun k hpk ih => ?_)
    intro x y a1 a2 b1 b2 hg
    refine s_lload_n 2 dX0_divisor_3 rfl rfl ?_
    refine s_lconst (v := 0) dX0_divisor_4 rfl ?_
    refine s_lcmp dX0_divisor_5 ?_
    refine s_if_eq 24 dX0_divisor_6 (by decide) (fun c6 => ?_) (fun c6 => ?_)
    · skip
      have hy := lcmp_0.mp c6
      subst hy
      refine s_lload dX0_divisor_24 rfl ?_
      exact s_lreturn dX0_divisor_26 rfl (rveL (by rw [hg, gcF_0]))
    · skip
      have hy : ¬ y = 0 := fun z => c6 (lcmp_0.mpr z)
      have hy0 : 0 < y.toInt := by
        rcases Int.lt_or_eq_of_le b1 with z | z
        · exact z
        · exact absurd (j0 z.symm) hy
      have hlt : k < 1000 := by omega
      have hr := rem64 a1 a2 hy0 (by omega)
      have hm0 := Int.emod_nonneg x.toInt (by omega : y.toInt ≠ 0)
      have hml := Int.emod_lt_of_pos x.toInt hy0
      refine s_lload dX0_divisor_9 rfl ?_
      refine s_lload_n 2 dX0_divisor_11 rfl rfl ?_
      refine s_lrem dX0_divisor_12 hy ?_
      refine s_lstore (ls' := [(6, _), (4, _), (2, _)]) dX0_divisor_13 (by decide) rfl ?_
      refine s_lload_n 2 dX0_divisor_15 rfl rfl ?_
      refine s_lstore (ls' := [(4, _), (6, _), (2, _)]) dX0_divisor_16 (by decide) rfl ?_
      refine s_lload dX0_divisor_18 rfl ?_
      refine s_lstore_n (ls' := [(2, _), (4, _), (6, _)]) 2 dX0_divisor_20 rfl (by decide) rfl ?_
      refine s_goto 3 dX0_divisor_21 (by decide) ?_
      exact AW.lc (ih hlt _ _ (by omega) (by omega) (by omega) (by omega) (by rw [hg, show 1000 - k = (1000 - (k + 1)) + 1 by omega, gcF_s hy])) ⟨rfl, rfl, trivial⟩
  exact AW.lc (L3 0 (Nat.zero_le _) a b ha ha2 hb (by omega) rfl) ⟨rfl, rfl, trivial⟩
theorem c_lowest {h : AH} (a b : Int64) (part : Int32) (hu1 : 0 ≤ a.toInt) (hu2 : a.toInt < 2 ^ 31) (hl : 0 < b.toInt) (hl2 : b.toInt ≤ 1000) : Con mX0_lowest 1 0 0 [.long a, .long b, .int part] h (retV (.long (loE a b part)) h) nox := by
  have hl1 : 0 ≤ b.toInt := by omega
  have hg : ¬ gcF 1000 a b = 0 := fun z => by
    have := gcF_pos (n := 1000) hu1 hu2 hl1 (by omega) (Or.inr hl) hl2
    rw [z] at this
    exact absurd this (by decide)
  refine Con.of rfl rfl (Nat.le_of_ble_eq_true rfl) ?_
  refine s_iload dX0_lowest_0 rfl ?_
  refine s_if_ne 9 dX0_lowest_2 (by decide) (fun c2 => ?_) (fun c2 => ?_)
  · skip
    refine s_lload_n 2 dX0_lowest_9 rfl rfl ?_
    refine s_lload_n 0 dX0_lowest_10 rfl rfl ?_
    refine s_lload_n 2 dX0_lowest_11 rfl rfl ?_
    refine s_callS_p (M2 := mX0_divisor) dX0_lowest_12 q1086 stX0_divisor rfl (c_divisor _ _ hu1 hu2 hl1 hl2) rfl rfl ⟨by decide, by decide, by decide⟩ (Nat.le_of_ble_eq_true rfl) ?_
    refine s_ldiv dX0_lowest_15 hg ?_
    exact s_lreturn dX0_lowest_16 rfl (rveL (by unfold loE; rw [if_neg c2]))
  · skip
    refine s_lload_n 0 dX0_lowest_5 rfl rfl ?_
    refine s_goto 10 dX0_lowest_6 (by decide) ?_
    refine s_lload_n 0 dX0_lowest_10 rfl rfl ?_
    refine s_lload_n 2 dX0_lowest_11 rfl rfl ?_
    refine s_callS_p (M2 := mX0_divisor) dX0_lowest_12 q1086 stX0_divisor rfl (c_divisor _ _ hu1 hu2 hl1 hl2) rfl rfl ⟨by decide, by decide, by decide⟩ (Nat.le_of_ble_eq_true rfl) ?_
    refine s_ldiv dX0_lowest_15 hg ?_
    exact s_lreturn dX0_lowest_16 rfl (rveL (by unfold loE; rw [if_pos c2]))
def cntB (f : Nat → Bool) : Nat → Nat
  | 0 => 0
  | n + 1 => cntB f n + (if f n = true then 1 else 0)
theorem cntB_c {f g : Nat → Bool} : ∀ {n : Nat}, (∀ q, q < n → f q = g q) → cntB f n = cntB g n
  | 0, _ => rfl
  | n + 1, hf => by unfold cntB; rw [cntB_c (n := n) (fun q hq => hf q (by omega)), hf n (by omega)]
theorem cntB_le (f : Nat → Bool) : ∀ n, cntB f n ≤ n
  | 0 => Nat.le_refl _
  | n + 1 => by
    have := cntB_le f n
    unfold cntB
    split <;> omega
theorem cntB_up {f : Nat → Bool} {m : Nat} : ∀ {n : Nat}, m ≤ n → (∀ q, m ≤ q → q < n → f q = false) → cntB f n = cntB f m
  | 0, h, _ => by rw [show m = 0 by omega]
  | n + 1, h, hf => by
    by_cases c : m = n + 1
    · rw [c]
    · show (cntB f n + if f n = true then 1 else 0) = _
      rw [hf n (by omega) (by omega)]
      show cntB f n + 0 = _
      rw [Nat.add_zero]
      exact cntB_up (n := n) (by omega) (fun q h1 h2 => hf q h1 (by omega))
theorem bc_cnt : ∀ s, s < 64 → bcS (nI s) = nI (cntB (fun q => (nI s).toBitVec.getLsbD q) 6) := by decide +kernel
theorem z_cnt : ∀ s, s < 64 → (nI s = 0 ↔ cntB (fun q => (nI s).toBitVec.getLsbD q) 6 = 0) := by decide +kernel
theorem bc_bs {s : Nat} (hs : s < 64) : bcS (nI s) = nI (cntB (bs (nI s)) 6) := by rw [bc_cnt s hs, cntB_c (fun q hq => (bsL (nI s) q (by omega)).symm)]
theorem z_bs {s : Nat} (hs : s < 64) : nI s = 0 ↔ cntB (bs (nI s)) 6 = 0 := by rw [z_cnt s hs, cntB_c (fun q hq => (bsL (nI s) q (by omega)).symm)]
theorem and_lt {k : Nat} (hk : k < 64) (x : Int32) : ∃ s, s < 64 ∧ nI k &&& x = nI s := by
  refine ⟨((nI k).toBitVec &&& x.toBitVec).toNat, ?_, ?_⟩
  · rw [BitVec.toNat_and]
    have h1 : (nI k).toBitVec.toNat = k := by
      have H : ∀ k, k < 64 → (nI k).toBitVec.toNat = k := by decide
      exact H k hk
    have := Nat.and_le_left (n := (nI k).toBitVec.toNat) (m := x.toBitVec.toNat)
    omega
  · apply Int32.toBitVec_inj.mp
    rw [Int32.toBitVec_and]
    show _ = BitVec.ofNat 32 _
    rw [BitVec.ofNat_toNat, BitVec.setWidth_eq]
theorem pres_lt {m : Nat} (h6 : m ≤ 6) (x : Int32) : ∃ s, s < 64 ∧ presS (nI m) x = nI s := by
  unfold presS
  have h64 := two_64 h6
  have h1 : 1 ≤ 2 ^ m := Nat.one_le_two_pow
  rw [two_m m h6, show nI (2 ^ m) - 1 = nI (2 ^ m - 1) from pk_sub (b := 1) h1]
  exact and_lt (by omega) _
theorem bs_pres2 {m : Nat} (h6 : m ≤ 6) {x : Int32} {q : Nat} (h1 : m ≤ q) (h2 : q < 6) : bs (presS (nI m) x) q = false := by
  unfold presS
  rw [bs_and _ _ (by omega), bs_ones (by omega) (by omega), decide_eq_false (by omega)]
  rfl
section CT
variable {h : AH} {t m : Nat} {e : St}
/-- how many are there; how many others -/
theorem pres_cnt (z : TR h t m e) : bcS (presS (hI h t 3) (hI h t 4)) = nI (cntB (hrE e) m) ∧ (presS (hI h t 3) (hI h t 4) = 0 ↔ cntB (hrE e) m = 0) := by
  have h6 := z.2.1
  have hb := fun q hq => bs_pres z (q := q) hq
  rw [z.1] at hb ⊢
  obtain ⟨s, hs, hse⟩ := pres_lt h6 (hI h t 4)
  have hc : cntB (bs (nI s)) 6 = cntB (hrE e) m := by
    rw [cntB_up h6 (fun q h1 h2 => by rw [← hse]; exact bs_pres2 h6 h1 h2)]
    exact cntB_c (fun q hq => by rw [← hse]; exact hb q hq)
  rw [hse, bc_bs hs, z_bs hs, hc]
  exact ⟨rfl, Iff.rfl⟩
def otB (e : St) (p : Nat) : Nat → Bool := fun q => hrE e q && !decide (q = p)
theorem bs_oth (z : TR h t m e) {p q : Nat} (hp : p < m) (hq : q < m) : bs (presS (hI h t 3) (hI h t 4) &&& (((1 : Int32) <<< (nI p &&& 31)) ^^^ (-1))) q = otB e p q := by
  have h6 := z.2.1
  rw [bs_and _ _ (by omega), bs_pres z hq, bs_not _ (by omega), bs_one (by omega) (by omega)]
  rfl
theorem oth_cnt (z : TR h t m e) {p : Nat} (hp : p < m) : bcS (presS (hI h t 3) (hI h t 4) &&& (((1 : Int32) <<< (nI p &&& 31)) ^^^ (-1))) = nI (cntB (otB e p) m) ∧ (presS (hI h t 3) (hI h t 4) &&& (((1 : Int32) <<< (nI p &&& 31)) ^^^ (-1)) = 0 ↔ cntB (otB e p) m = 0) := by
  have h6 := z.2.1
  have hb := fun q hq => bs_oth z hp (q := q) hq
  rw [z.1] at hb ⊢
  obtain ⟨s0, hs0, hse0⟩ := pres_lt h6 (hI h t 4)
  have h2 : ∀ q, m ≤ q → q < 6 → bs (presS (nI m) (hI h t 4) &&& (((1 : Int32) <<< (nI p &&& 31)) ^^^ (-1))) q = false := fun q h1 h2 => by rw [bs_and _ _ (by omega), bs_pres2 h6 h1 h2]; rfl
  have h3 : ∃ s, s < 64 ∧ presS (nI m) (hI h t 4) &&& (((1 : Int32) <<< (nI p &&& 31)) ^^^ (-1)) = nI s := by rw [hse0]; exact and_lt hs0 _
  obtain ⟨s, hs, hse⟩ := h3
  have hc : cntB (bs (nI s)) 6 = cntB (otB e p) m := by
    rw [cntB_up h6 (fun q h1 h2' => by rw [← hse]; exact h2 q h1 h2')]
    exact cntB_c (fun q hq => by rw [← hse]; exact hb q hq)
  rw [hse, bc_bs hs, z_bs hs, hc]
  exact ⟨rfl, Iff.rfl⟩
/-- one's share if another weren't there -/
def sxE (f : Nat → Nat → Int32) (e : St) (m p q : Nat) : Int32 := shareS (otB e q) (fun q => maxJ 0 (f q (yE e q))) (e 61) m p
theorem sx_share {pr : Pr} {f : Nat → Nat → Int32} (rw : RW h t m e pr) (r : RT h m f) {p q : Nat} (hp : p < m) (hq : q < m) : shareS (bs (presS (hI h t 3) (hI h t 4) &&& (((1 : Int32) <<< (nI q &&& 31)) ^^^ (-1)))) (rh h (yE e)) (hI h t 5) m p = sxE f e m p q := by
  have z := rw.tr
  exact shareS_c z.2.2.2.1 (fun k hk => bs_oth z hq hk) (fun k hk => rh_f r (fun k hk => z.y10 hk) hk) hp
end CT
theorem lc_1 : ∀ c, c < 10 → (nI c).toInt64 + 1 = (nI (c + 1)).toInt64 := by decide
theorem nL_toInt {c : Nat} (hc : c < 2 ^ 31) : (nI c).toInt64.toInt = c := by rw [Int32.toInt_toInt64, nI_toInt hc]
/-- who, of the others, makes one pay more by not being there -/
def moB (f : Nat → Nat → Int32) (e : St) (m p : Nat) : Nat → Bool := fun q => otB e p q && decide (shE f e m p < sxE f e m p q)
def odE (pr : Pr) (m : Nat) (e : St) (x part : Int32) : Int64 := if isM m x = true ∧ inB part 0 1 = true then (if hrE e x.toNatClampNeg = true ∧ ¬ cntB (otB e x.toNatClampNeg) m = 0 then loE (nI (cntB (moB (rateE pr e) e m x.toNatClampNeg) m)).toInt64 (nI (cntB (otB e x.toNatClampNeg) m)).toInt64 part else -9223372036854775808) else -9223372036854775808
def meE (m : Nat) (e : St) (part : Int32) : Int64 := if inB part 0 1 = true ∧ ¬ cntB (hrE e) m = 0 then loE (e 61).toInt64 (nI (cntB (hrE e) m)).toInt64 part else -9223372036854775808
theorem cnt_1 {f : Nat → Bool} {n : Nat} (hf : f n = true) : cntB f (n + 1) = cntB f n + 1 := by
  show (cntB f n + if f n = true then 1 else 0) = _
  rw [if_pos hf]
theorem cnt_0 {f : Nat → Bool} {n : Nat} (hf : f n = false) : cntB f (n + 1) = cntB f n := by
  show (cntB f n + if f n = true then 1 else 0) = _
  rw [hf]; rfl
theorem c_odds {h : AH} {m : Nat} {e : St} {pr : Pr} (rw : RW h 19 m e pr) (x part : Int32) : Con mX0_odds 29 0 0 [.ref 16, .int x, .int part] h (retG (some (.long (odE pr m e x part))) (fun h' => Chg [30, 40] h h')) nox := by
  have w := rw.w
  have tm := rw.tm
  have h6 := rw.m6
  have hmm := rw.tr.1
  refine Con.of rfl rfl (Nat.le_of_ble_eq_true rfl) ?_
  refine s_aload_n 0 dX0_odds_0 rfl rfl ?_
  refine s_iload_n 1 dX0_odds_1 rfl rfl ?_
  refine s_callV_p (M2 := mX0_isMourner) dX0_odds_2 q656 bX0_isMourner inX0_isMourner.2 qs13 rfl (c_isM rw.w hmm _) rfl rfl (rk (wk_16 w) rfl rfl) ⟨by decide, by decide, by decide⟩ (Nat.le_of_ble_eq_true rfl) ?_
  refine s_ifeq_b 17 dX0_odds_5 (by decide) (fun c5 => ?_) (fun c5 => ?_)
  · skip
    refine s_ldc2 dX0_odds_17 q1082 ?_
    exact s_lreturn dX0_odds_20 rfl (rgL (by unfold odE; rw [if_neg (fun y => by rw [c5] at y; exact absurd y.1 (by decide))]) Chg.refl)
  · skip
    refine s_iload_n 2 dX0_odds_8 rfl rfl ?_
    refine s_iconst (v := 0) dX0_odds_9 rfl ?_
    refine s_iconst (v := 1) dX0_odds_10 rfl ?_
    refine s_callS_p (M2 := mX0_in) dX0_odds_11 q373 stX0_in rfl (c_in _ _ _ _) rfl rfl ⟨by decide, by decide, by decide⟩ (Nat.le_of_ble_eq_true rfl) ?_
    refine s_ifne_b 21 dX0_odds_14 (by decide) (fun c14 => ?_) (fun c14 => ?_)
    · skip
      obtain ⟨p, hlt, rfl⟩ := isM_ex h6 c5
      have hpc : (nI p).toNatClampNeg = p := nI_clamp (by omega)
      refine s_aload_n 0 dX0_odds_21 rfl rfl ?_
      refine s_getP dX0_odds_22 fl_X0_28 (fo_1_2.at (wk_16 w)) (wp_16_2 w) ?_
      refine s_callV_p (M2 := mX1_present) dX0_odds_25 q619 bX1_present inX1_present.2 q621 rfl (c_present _ _ (wk_19 w)) rfl rfl (rk (wk_19 w) rfl rfl) ⟨by decide, by decide, by decide⟩ (Nat.le_of_ble_eq_true rfl) ?_
      refine s_iconst (v := 1) dX0_odds_28 rfl ?_
      refine s_iload_n 1 dX0_odds_29 rfl rfl ?_
      refine s_ishl dX0_odds_30 ?_
      refine s_iconst (v := -1) dX0_odds_31 rfl ?_
      refine s_ixor dX0_odds_32 ?_
      refine s_iand dX0_odds_33 ?_
      refine s_istore_n (ls' := [(3, _), (0, _), (1, _), (2, _)]) 3 dX0_odds_34 rfl (by decide) rfl ?_
      refine s_aload_n 0 dX0_odds_35 rfl rfl ?_
      refine s_getP dX0_odds_36 fl_X0_28 (fo_1_2.at (wk_16 w)) (wp_16_2 w) ?_
      refine s_iload_n 1 dX0_odds_39 rfl rfl ?_
      refine s_callV_p (M2 := mX1_isAway) dX0_odds_40 q604 bX1_isAway inX1_isAway.2 q606 rfl (c_isAway _ _ _ (wk_19 w)) rfl rfl (rk (wk_19 w) rfl rfl) ⟨by decide, by decide, by decide⟩ (Nat.le_of_ble_eq_true rfl) ?_
      have hgo := (rw.tr.2.2.1 p hlt).2.2.2.2.2
      change bs (hI h 19 4) p = _ at hgo
      refine s_ifne_b 50 dX0_odds_43 (by decide) (fun c43 => ?_) (fun c43 => ?_)
      · skip
        have hng : hrE e p = false := by have y := hgo; rw [show bs (hI h 19 4) p = true from c43] at y; simpa using y
        refine s_ldc2 dX0_odds_50 q1082 ?_
        exact s_lreturn dX0_odds_53 rfl (rgL (by unfold odE; rw [if_pos ⟨c5, c14⟩, hpc, if_neg (fun y => by rw [hng] at y; exact absurd y.1 (by decide))]) Chg.refl)
      · skip
        have hyg : hrE e p = true := by have y := hgo; rw [show bs (hI h 19 4) p = false from c43] at y; simpa using y
        refine s_iload_n 3 dX0_odds_46 rfl rfl ?_
        refine s_if_ne 54 dX0_odds_47 (by decide) (fun c47 => ?_) (fun c47 => ?_)
        · skip
          refine s_aload_n 0 dX0_odds_54 rfl rfl ?_
          refine s_aload_n 0 dX0_odds_55 rfl rfl ?_
          refine s_getP dX0_odds_56 fl_X0_28 (fo_1_2.at (wk_16 w)) (wp_16_2 w) ?_
          refine s_callV (M2 := mX0_looksForRates) dX0_odds_59 q497 bX0_looksForRates inX0_looksForRates.2 qs3 rfl (c_looks rw) rfl rfl (rk (wk_16 w) rfl rfl) ⟨by decide, by decide, by decide⟩ (Nat.le_of_ble_eq_true rfl) (fun v1 h1 z1 => ?_) (fun _ _ z => z.elim)
          obtain ⟨rfl, x1, r1⟩ := z1
          have rw1 := rw.at40 x1
          have tm1 := rw1.tm
          refine s_aload_n 0 dX0_odds_62 rfl rfl ?_
          refine s_aload_n 0 dX0_odds_63 rfl rfl ?_
          refine s_getP dX0_odds_64 fl_X0_28 (fo_1_2.at (wk_16 rw1.w)) (wp_16_2 rw1.w) ?_
          refine s_iload_n 1 dX0_odds_67 rfl rfl ?_
          refine s_aload_n 0 dX0_odds_68 rfl rfl ?_
          refine s_getP dX0_odds_69 fl_X0_28 (fo_1_2.at (wk_16 rw1.w)) (wp_16_2 rw1.w) ?_
          refine s_callV_p (M2 := mX1_present) dX0_odds_72 q619 bX1_present inX1_present.2 q621 rfl (c_present _ _ (wk_19 rw1.w)) rfl rfl (rk (wk_19 rw1.w) rfl rfl) ⟨by decide, by decide, by decide⟩ (Nat.le_of_ble_eq_true rfl) ?_
          refine s_callV_p (M2 := mX0_shareOf) dX0_odds_75 q623 bX0_shareOf inX0_shareOf.2 qs7 rfl (c_shareOf tm1 p hlt _) rfl rfl (rk (wk_16 rw1.w) rfl rfl) ⟨by decide, by decide, by decide⟩ (Nat.le_of_ble_eq_true rfl) ?_
          rw [share_shE rw1 r1 hlt]
          refine s_istore (ls' := [(4, _), (3, _), (0, _), (1, _), (2, _)]) dX0_odds_78 (by decide) rfl ?_
          refine s_lconst (v := 0) dX0_odds_80 rfl ?_
          rw [show (0 : Int64) = (nI (cntB (moB (rateE pr e) e m p) 0)).toInt64 from rfl]
          refine s_lstore (ls' := [(5, _), (4, _), (3, _), (0, _), (1, _), (2, _)]) dX0_odds_81 (by decide) rfl ?_
          refine s_iconst (v := 0) dX0_odds_83 rfl ?_
          refine s_istore (ls' := [(7, _), (5, _), (4, _), (3, _), (0, _), (1, _), (2, _)]) dX0_odds_84 (by decide) rfl ?_
          have L86 : ∀ k : Nat, k ≤ m → AW mX0_odds 29 (retG (some (.long (odE pr m e (nI p) part))) (fun h' => Chg [30, 40] h h')) nox 0 0 86 [(7, .int (nI k)), (5, .long (nI (cntB (moB (rateE pr e) e m p) k)).toInt64), (4, .int (shE (rateE pr e) e m p)), (3, .int (presS (hI h 19 3) (hI h 19 4) &&& (((1 : Int32) <<< (nI p &&& 31)) ^^^ (-1)))), (0, .ref 16), (1, .int (nI p)), (2, .int part)] [] h1 := by
            refine for_up (fun k hpk ih => ?_)
            refine s_iload dX0_odds_86 rfl ?_
            refine s_aload_n 0 dX0_odds_88 rfl rfl ?_
            refine s_getP dX0_odds_89 fl_X0_28 (fo_1_2.at (wk_16 rw1.w)) (wp_16_2 rw1.w) ?_
            refine s_getI dX0_odds_92 fl_X0_115 (fo_2_3.at (wk_19 rw1.w)) ?_
            refine s_icmp_ge 147 dX0_odds_95 (by decide) (fun c95 => ?_) (fun c95 => ?_)
            · skip
              have hge := le_ge rw1.tr.1 (by omega) (by omega) c95
              obtain rfl : k = m := by omega
              refine s_lload dX0_odds_147 rfl ?_
              refine s_iload_n 3 dX0_odds_149 rfl rfl ?_
              refine s_callS_p (M2 := mJ14_bitCount) dX0_odds_150 q1064 stJ14_bitCount rfl (c_bitCount _ _) rfl rfl ⟨by decide, by decide, by decide⟩ (Nat.le_of_ble_eq_true rfl) ?_
              rw [(oth_cnt rw.tr hlt).1]
              refine s_i2l dX0_odds_153 ?_
              refine s_iload_n 2 dX0_odds_154 rfl rfl ?_
              have hcl := cntB_le (otB e p) k
              have hcm := cntB_le (moB (rateE pr e) e k p) k
              have hc0 : ¬ cntB (otB e p) k = 0 := fun y => c47 ((oth_cnt rw.tr hlt).2.mpr y)
              refine s_callS_p (M2 := mX0_lowest) dX0_odds_155 q1083 stX0_lowest rfl (c_lowest _ _ _ (by rw [nL_toInt (by omega)]; omega) (by rw [nL_toInt (by omega)]; omega) (by rw [nL_toInt (by omega)]; omega) (by rw [nL_toInt (by omega)]; omega)) rfl rfl ⟨by decide, by decide, by decide⟩ (Nat.le_of_ble_eq_true rfl) ?_
              exact s_lreturn dX0_odds_158 rfl (rgL (by unfold odE; rw [if_pos ⟨c5, c14⟩, hpc, if_pos ⟨hyg, fun y => c47 ((oth_cnt rw.tr hlt).2.mpr y)⟩]) x1)
            · skip
              have hk := nle_lt rw1.tr.1 (by omega) (by omega) c95
              refine s_iload_n 3 dX0_odds_98 rfl rfl ?_
              refine s_iload dX0_odds_99 rfl ?_
              refine s_callS_p (M2 := mX0_isIn) dX0_odds_101 q627 stX0_isIn rfl (c_isIn _ _ _) rfl rfl ⟨by decide, by decide, by decide⟩ (Nat.le_of_ble_eq_true rfl) ?_
              refine s_ifeq_b 141 dX0_odds_104 (by decide) (fun c104 => ?_) (fun c104 => ?_)
              · skip
                refine s_iinc (v := nI (k + 1)) (ls' := [(7, _), (5, _), (4, _), (3, _), (0, _), (1, _), (2, _)]) dX0_odds_141 rfl (nI_succ k).symm (by decide) rfl ?_
                refine s_goto 86 dX0_odds_144 (by decide) ?_
                exact AW.lc (ih hk ) ⟨rfl, (congrArg (fun c => some (Value.long (nI c).toInt64)) (cnt_0 (show moB (rateE pr e) e m p k = false from by unfold moB; rw [← bs_oth rw.tr hlt hk, show bs _ k = false from c104]; rfl)).symm), rfl, rfl, rfl, rfl, rfl, trivial⟩
              · skip
                refine s_aload_n 0 dX0_odds_107 rfl rfl ?_
                refine s_aload_n 0 dX0_odds_108 rfl rfl ?_
                refine s_getP dX0_odds_109 fl_X0_28 (fo_1_2.at (wk_16 rw1.w)) (wp_16_2 rw1.w) ?_
                refine s_iload_n 1 dX0_odds_112 rfl rfl ?_
                refine s_aload_n 0 dX0_odds_113 rfl rfl ?_
                refine s_getP dX0_odds_114 fl_X0_28 (fo_1_2.at (wk_16 rw1.w)) (wp_16_2 rw1.w) ?_
                refine s_callV_p (M2 := mX1_present) dX0_odds_117 q619 bX1_present inX1_present.2 q621 rfl (c_present _ _ (wk_19 rw1.w)) rfl rfl (rk (wk_19 rw1.w) rfl rfl) ⟨by decide, by decide, by decide⟩ (Nat.le_of_ble_eq_true rfl) ?_
                refine s_iconst (v := 1) dX0_odds_120 rfl ?_
                refine s_iload dX0_odds_121 rfl ?_
                refine s_ishl dX0_odds_123 ?_
                refine s_iconst (v := -1) dX0_odds_124 rfl ?_
                refine s_ixor dX0_odds_125 ?_
                refine s_iand dX0_odds_126 ?_
                refine s_callV_p (M2 := mX0_shareOf) dX0_odds_127 q623 bX0_shareOf inX0_shareOf.2 qs7 rfl (c_shareOf tm1 p hlt _) rfl rfl (rk (wk_16 rw1.w) rfl rfl) ⟨by decide, by decide, by decide⟩ (Nat.le_of_ble_eq_true rfl) ?_
                rw [sx_share rw1 r1 hlt hk]
                refine s_iload dX0_odds_130 rfl ?_
                refine s_icmp_le 141 dX0_odds_132 (by decide) (fun c132 => ?_) (fun c132 => ?_)
                · skip
                  refine s_iinc (v := nI (k + 1)) (ls' := [(7, _), (5, _), (4, _), (3, _), (0, _), (1, _), (2, _)]) dX0_odds_141 rfl (nI_succ k).symm (by decide) rfl ?_
                  refine s_goto 86 dX0_odds_144 (by decide) ?_
                  exact AW.lc (ih hk ) ⟨rfl, (congrArg (fun c => some (Value.long (nI c).toInt64)) (cnt_0 (show moB (rateE pr e) e m p k = false from by unfold moB; rw [decide_eq_false (Int32.not_lt.mpr c132), Bool.and_false])).symm), rfl, rfl, rfl, rfl, rfl, trivial⟩
                · skip
                  refine s_lload dX0_odds_135 rfl ?_
                  refine s_lconst (v := 1) dX0_odds_137 rfl ?_
                  refine s_ladd dX0_odds_138 ?_
                  refine s_lstore (ls' := [(5, _), (7, _), (4, _), (3, _), (0, _), (1, _), (2, _)]) dX0_odds_139 (by decide) rfl ?_
                  refine s_iinc (v := nI (k + 1)) (ls' := [(7, _), (5, _), (4, _), (3, _), (0, _), (1, _), (2, _)]) dX0_odds_141 rfl (nI_succ k).symm (by decide) rfl ?_
                  refine s_goto 86 dX0_odds_144 (by decide) ?_
                  exact AW.lc (ih hk ) ⟨rfl, (congrArg (fun x => some (Value.long x)) ((lc_1 _ (Nat.lt_of_le_of_lt (cntB_le _ _) (by omega))).trans (congrArg (fun c => (nI c).toInt64) (cnt_1 (show moB (rateE pr e) e m p k = true from by unfold moB; rw [← bs_oth rw.tr hlt hk, show bs _ k = true from c104, decide_eq_true (Int32.not_le.mp c132)]; rfl)).symm))), rfl, rfl, rfl, rfl, rfl, trivial⟩
          exact AW.lc (L86 0 (Nat.zero_le _) ) ⟨rfl, rfl, rfl, rfl, rfl, rfl, rfl, trivial⟩
        · skip
          refine s_ldc2 dX0_odds_50 q1082 ?_
          exact s_lreturn dX0_odds_53 rfl (rgL (by unfold odE; rw [if_pos ⟨c5, c14⟩, hpc, if_neg (fun y => y.2 ((oth_cnt rw.tr hlt).2.mp c47))]) Chg.refl)
    · skip
      refine s_ldc2 dX0_odds_17 q1082 ?_
      exact s_lreturn dX0_odds_20 rfl (rgL (by unfold odE; rw [if_neg (fun y => by rw [c14] at y; exact absurd y.2 (by decide))]) Chg.refl)
theorem c_mean {h : AH} {m : Nat} {e : St} {pr : Pr} (rw : RW h 19 m e pr) (part : Int32) {dv : Nat} (hd : e 61 = nI dv) (hd9 : dv ≤ 999) : Con mX0_mean 3 0 0 [.ref 16, .int part] h (retV (.long (meE m e part)) h) nox := by
  have w := rw.w
  have tm := rw.tm
  have h6 := rw.m6
  have hmm := rw.tr.1
  refine Con.of rfl rfl (Nat.le_of_ble_eq_true rfl) ?_
  refine s_aload_n 0 dX0_mean_0 rfl rfl ?_
  refine s_getP dX0_mean_1 fl_X0_28 (fo_1_2.at (wk_16 w)) (wp_16_2 w) ?_
  refine s_callV_p (M2 := mX1_present) dX0_mean_4 q619 bX1_present inX1_present.2 q621 rfl (c_present _ _ (wk_19 w)) rfl rfl (rk (wk_19 w) rfl rfl) ⟨by decide, by decide, by decide⟩ (Nat.le_of_ble_eq_true rfl) ?_
  refine s_callS_p (M2 := mJ14_bitCount) dX0_mean_7 q1064 stJ14_bitCount rfl (c_bitCount _ _) rfl rfl ⟨by decide, by decide, by decide⟩ (Nat.le_of_ble_eq_true rfl) ?_
  rw [(pres_cnt rw.tr).1]
  refine s_istore_n (ls' := [(2, _), (0, _), (1, _)]) 2 dX0_mean_10 rfl (by decide) rfl ?_
  refine s_iload_n 1 dX0_mean_11 rfl rfl ?_
  refine s_iconst (v := 0) dX0_mean_12 rfl ?_
  refine s_iconst (v := 1) dX0_mean_13 rfl ?_
  refine s_callS_p (M2 := mX0_in) dX0_mean_14 q373 stX0_in rfl (c_in _ _ _ _) rfl rfl ⟨by decide, by decide, by decide⟩ (Nat.le_of_ble_eq_true rfl) ?_
  refine s_ifeq_b 24 dX0_mean_17 (by decide) (fun c17 => ?_) (fun c17 => ?_)
  · skip
    refine s_ldc2 dX0_mean_24 q1082 ?_
    refine s_goto 44 dX0_mean_27 (by decide) ?_
    exact s_lreturn dX0_mean_44 rfl (rveL (by unfold meE; rw [if_neg (fun y => by rw [c17] at y; exact absurd y.1 (by decide))]))
  · skip
    refine s_iload_n 2 dX0_mean_20 rfl rfl ?_
    refine s_if_ne 30 dX0_mean_21 (by decide) (fun c21 => ?_) (fun c21 => ?_)
    · skip
      refine s_aload_n 0 dX0_mean_30 rfl rfl ?_
      refine s_getP dX0_mean_31 fl_X0_28 (fo_1_2.at (wk_16 w)) (wp_16_2 w) ?_
      refine s_getI dX0_mean_34 fl_X0_213 (fo_2_5.at (wk_19 w)) ?_
      rw [rw.tr.2.2.2.1]
      refine s_i2l dX0_mean_37 ?_
      refine s_iload_n 2 dX0_mean_38 rfl rfl ?_
      refine s_i2l dX0_mean_39 ?_
      refine s_iload_n 1 dX0_mean_40 rfl rfl ?_
      have hcl := cntB_le (hrE e) m
      have hc0 : ¬ cntB (hrE e) m = 0 := fun y => c21 (by rw [y]; rfl)
      refine s_callS_p (M2 := mX0_lowest) dX0_mean_41 q1083 stX0_lowest rfl (c_lowest _ _ _ (by rw [hd, nL_toInt (by omega)]; omega) (by rw [hd, nL_toInt (by omega)]; omega) (by rw [nL_toInt (by omega)]; omega) (by rw [nL_toInt (by omega)]; omega)) rfl rfl ⟨by decide, by decide, by decide⟩ (Nat.le_of_ble_eq_true rfl) ?_
      exact s_lreturn dX0_mean_44 rfl (rveL (by unfold meE; rw [if_pos ⟨c17, fun y => c21 (by rw [y]; rfl)⟩]))
    · skip
      refine s_ldc2 dX0_mean_24 q1082 ?_
      refine s_goto 44 dX0_mean_27 (by decide) ?_
      exact s_lreturn dX0_mean_44 rfl (rveL (by unfold meE; rw [if_neg (fun y => y.2 (nI_inj (by have := cntB_le (hrE e) m; omega) (by decide) c21))]))
