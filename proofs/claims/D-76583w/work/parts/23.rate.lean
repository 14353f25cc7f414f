/-! the state as one row of numbers; what a time, the mourners are of it; rates -/
set_option maxRecDepth 100000
theorem bsL (x : Int32) : ∀ p, p < 32 → bs x p = x.toBitVec.getLsbD p := by
  intro p hp
  show decide ((x >>> ((Int32.ofNat p) &&& 31)) &&& 1 = 1) = _
  have e : (Int32.ofNat p &&& 31) = Int32.ofNat p := by
    have H : ∀ p, p < 32 → (Int32.ofNat p &&& 31) = Int32.ofNat p := by decide
    exact H p hp
  rw [e]
  have e2 : (x >>> Int32.ofNat p).toBitVec = x.toBitVec.sshiftRight p := by
    rw [Int32.toBitVec_shiftRight]
    have H : ∀ p, p < 32 → ((Int32.ofNat p).toBitVec.smod 32).toNat = p := by decide
    rw [BitVec.sshiftRight', H p hp]
  have e3 : ((x >>> Int32.ofNat p) &&& 1 = 1) ↔ (x.toBitVec.sshiftRight p).getLsbD 0 = true := by
    rw [← Int32.toBitVec_inj, Int32.toBitVec_and, e2]
    show (_ &&& 1#32 = 1#32) ↔ _
    constructor
    · intro h
      have := congrArg (fun v => v.getLsbD 0) h
      simpa using this
    · intro h
      apply BitVec.eq_of_getLsbD_eq
      intro i hi
      by_cases i0 : i = 0
      · subst i0; simp [h]
      · simp [i0]
  rw [BitVec.getLsbD_sshiftRight] at e3
  by_cases hb : x.toBitVec.getLsbD p = true
  · rw [hb]
    exact decide_eq_true (e3.mpr (by simp [hp, hb]))
  · have hb' : x.toBitVec.getLsbD p = false := by simpa using hb
    rw [hb']
    exact decide_eq_false (fun z => by have t := e3.mp z; rw [if_pos (by omega : p + 0 < 32), Nat.add_zero, hb'] at t; simp at t)
theorem bs_and (x y : Int32) {p : Nat} (hp : p < 32) : bs (x &&& y) p = (bs x p && bs y p) := by rw [bsL _ p hp, bsL _ p hp, bsL _ p hp, Int32.toBitVec_and, BitVec.getLsbD_and]
theorem bs_or (x y : Int32) {p : Nat} (hp : p < 32) : bs (x ||| y) p = (bs x p || bs y p) := by rw [bsL _ p hp, bsL _ p hp, bsL _ p hp, Int32.toBitVec_or, BitVec.getLsbD_or]
theorem bs_not (x : Int32) {p : Nat} (hp : p < 32) : bs (x ^^^ (-1)) p = !bs x p := by
  rw [bsL _ p hp, bsL _ p hp, Int32.toBitVec_xor, BitVec.getLsbD_xor]
  have : (-1 : Int32).toBitVec.getLsbD p = true := by
    have H : ∀ p, p < 32 → (-1 : Int32).toBitVec.getLsbD p = true := by decide
    exact H p hp
  rw [this]; simp
theorem bs_one {q p : Nat} (hq : q < 10) (hp : p < 10) : bs ((1 : Int32) <<< (nI q &&& 31)) p = decide (p = q) := by
  rw [bsL _ p (by omega)]
  have H : ∀ q, q < 10 → ∀ p, p < 10 → ((1 : Int32) <<< (Int32.ofNat q &&& 31)).toBitVec.getLsbD p = decide (p = q) := by decide
  exact H q hq p hp
theorem bs_ones {m p : Nat} (hm : m < 10) (hp : p < 10) : bs (((1 : Int32) <<< (nI m &&& 31)) - 1) p = decide (p < m) := by
  rw [bsL _ p (by omega)]
  have H : ∀ m, m < 10 → ∀ p, p < 10 → (((1 : Int32) <<< (Int32.ofNat m &&& 31)) - 1).toBitVec.getLsbD p = decide (p < m) := by decide
  exact H m hm p hp
/-- the state: ten numbers of a mourner (kind, v, love, yard, away, paid, a row), then how many, debt, day .. -/
abbrev St : Type := Nat → Int32
/-- a parish: its fall, its clauses -/
abbrev Pr : Type := Int32 × List Cl
def kE (e : St) (p : Nat) : Nat := (e (10 * p)).toNatClampNeg
def yE (e : St) (p : Nat) : Nat := (e (10 * p + 3)).toNatClampNeg
def hrE (e : St) (p : Nat) : Bool := decide (e (10 * p + 4) = 0)
def remJ (x y : Int32) : Int32 := x - x / y * y
def envE (e : St) (p : Nat) (y : Int32) : Nat → Int32 := fun f => if f = 0 then nI p else if f = 1 then e (10 * p) else if f = 2 then e (10 * p + 1) else if f = 3 then e (10 * p + 2) else if f = 4 then y else remJ (e 62) 10
def rateE (pr : Pr) (e : St) (p y : Nat) : Int32 := rtE (kE e p) (e (10 * p + 1)) (sumE pr.1 pr.2 (envE e p (nI y))) (nI y) (e 62) (e (10 * p + 6 + y % 4))
/-- only numbers of things in S are others -/
def Chg (S : List Nat) (h h' : AH) : Prop := h'.1 = h.1 ∧ h'.2.1 = h.2.1 ∧ h'.2.2.2 = h.2.2.2 ∧ ∀ a f, a ∉ S → hI h' a f = hI h a f
section CHG
variable {S : List Nat} {h h' h'' : AH}
theorem Chg.refl : Chg S h h := ⟨rfl, rfl, rfl, fun _ _ _ => rfl⟩
theorem Chg.trans (x : Chg S h h') (y : Chg S h' h'') : Chg S h h'' := ⟨y.1.trans x.1, y.2.1.trans x.2.1, y.2.2.1.trans x.2.2.1, fun a f ha => (y.2.2.2 a f ha).trans (x.2.2.2 a f ha)⟩
theorem Chg.mono {S' : List Nat} (x : Chg S h h') (hs : ∀ a ∈ S, a ∈ S') : Chg S' h h' := ⟨x.1, x.2.1, x.2.2.1, fun a f ha => x.2.2.2 a f (fun z => ha (hs a z))⟩
theorem Chg.s {a f : Nat} {v : Int32} (x : Chg S h h') (ha : a ∈ S) : Chg S h (sI h' a f v) := x.trans ⟨rfl, rfl, rfl, fun b g hb => hI_sI_ne (fun z => hb (z.1 ▸ ha))⟩
theorem Chg.k (x : Chg S h h') (a : Nat) : hK h' a = hK h a := congrFun x.1 a
theorem Chg.n (x : Chg S h h') (a : Nat) : hN h' a = hN h a := congrFun x.2.1 a
theorem Chg.p (x : Chg S h h') (a f : Nat) : hP h' a f = hP h a f := by show h'.2.2.2.2.1 a f = _; rw [x.2.2.1]; rfl
theorem Chg.j (x : Chg S h h') (a f : Nat) : hJ h' a f = hJ h a f := by show h'.2.2.2.1 a f = _; rw [x.2.2.1]; rfl
theorem Chg.x (x : Chg S h h') : hX h' = hX h := by show h'.2.2.2.2.2 = _; rw [x.2.2.1]; rfl
theorem Chg.i (x : Chg S h h') {a : Nat} (ha : a ∉ S) (f : Nat) : hI h' a f = hI h a f := x.2.2.2 a f ha
theorem WF.chg (w : WF h) (x : Chg S h h') : WF h' := ⟨fun q hq => by rw [x.k, x.n]; exact w.1 q hq, fun q hq => by rw [x.p]; exact w.2.1 q hq, by rw [x.x]; exact w.2.2.1, fun b hb => by rw [x.k]; rw [x.x] at hb; exact w.2.2.2 b hb⟩
theorem Chg.sm (x : Chg S h h') {a : Nat} (ha : a ∉ S) : Sm h h' a := ⟨x.k a, x.n a, fun f => x.i ha f, fun f => x.p a f⟩
end CHG
/-- fixed things that are no part of a parish and no mourner -/
def okFx (k : Nat) : Bool := !(frK k) && !(8 ≤ k && k ≤ 14)
def fxA (a : Nat) : Bool := wfK.any (fun q => q.1 == a && okFx q.2.1)
theorem fxA_k {h : AH} (w : WF h) {a : Nat} (ha : fxA a = true) : okFx (hK h a) = true := by
  obtain ⟨q, h1, h2⟩ := List.any_eq_true.mp ha
  simp only [Bool.and_eq_true, beq_iff_eq] at h2
  rw [← h2.1, (w.1 q h1).1]
  exact h2.2
/-- a list of such things -/
def fxS (S : List Nat) : Bool := S.all fxA
theorem fxS_fr {h : AH} (w : WF h) {S : List Nat} (hS : fxS S = true) {a : Nat} (hf : frK (hK h a) = true) : a ∉ S := by
  intro ha
  have := fxA_k w (List.all_eq_true.mp hS a ha)
  unfold okFx at this
  rw [hf] at this
  simp at this
theorem fxS_mk {h : AH} (w : WF h) {S : List Nat} (hS : fxS S = true) {a : Nat} (hm : MK (hK h a)) : a ∉ S := by
  intro ha
  have := fxA_k w (List.all_eq_true.mp hS a ha)
  unfold okFx at this
  have h1 := hm.1
  have h2 := hm.2
  simp [h1, h2] at this
theorem PA.chg {R : Nat → Prop} {h h' : AH} {S : List Nat} {a : Nat} {fall : Int32} {l : List Cl} (z : PA R h a fall l) (w : WF h) (x : Chg S h h') (hS : fxS S = true) : PA R h' a fall l := z.keep (fun b _ hf => x.sm (fxS_fr w hS hf))
theorem Mr.chg {h h' : AH} {S : List Nat} {a k : Nat} {n v : Int32} (z : Mr h a k n v) (w : WF h) (x : Chg S h h') (hS : fxS S = true) : Mr h' a k n v := by
  have ha := fxS_mk w hS z.mk
  exact ⟨(x.k a).trans z.1, z.2.1, (x.p a 0).trans z.2.2.1, (x.i ha 1).trans z.2.2.2.1, (x.i ha 2).trans z.2.2.2.2⟩
/-- the mourners stand in the row ma; the parts of their rows in ra -/
def MO (h : AH) (ma ra m : Nat) (e : St) : Prop := ∀ p, p < m → Mr h (hP h ma p) (kE e p) (nI p) (e (10 * p + 1)) ∧ e (10 * p) = nI (kE e p) ∧ (kE e p = 6 → hP h (hP h ma p) 3 = 18) ∧ ∀ j, j < 4 → hI h ra (4 * p + j) = e (10 * p + 6 + j)
theorem MO.chg {h h' : AH} {S : List Nat} {ma ra m : Nat} {e : St} (z : MO h ma ra m e) (w : WF h) (x : Chg S h h') (hS : fxS S = true) (h18 : ra ∉ S) : MO h' ma ra m e := by
  intro p hp
  obtain ⟨z1, z2, z3, z4⟩ := z p hp
  rw [x.p]
  exact ⟨z1.chg w x hS, z2, fun k6 => by rw [x.p]; exact z3 k6, fun j hj => by rw [x.i h18]; exact z4 j hj⟩
/-- a time t is of the state e: loves, yards, who is away, what was paid, debt, day -/
def TR (h : AH) (t m : Nat) (e : St) : Prop := hI h t 3 = nI m ∧ m ≤ 6 ∧ (∀ p, p < m → hI h (t + 1) p = e (10 * p + 2) ∧ hI h (t + 2) p = nI (yE e p) ∧ e (10 * p + 3) = nI (yE e p) ∧ yE e p < 10 ∧ hI h (t + 3) p = e (10 * p + 5) ∧ bs (hI h t 4) p = !hrE e p) ∧ hI h t 5 = e 61 ∧ hI h t 6 = e 62
theorem TR.chg {h h' : AH} {S : List Nat} {t m : Nat} {e : St} (z : TR h t m e) (x : Chg S h h') (h0 : t ∉ S) (h1 : t + 1 ∉ S) (h2 : t + 2 ∉ S) (h3 : t + 3 ∉ S) : TR h' t m e := by
  obtain ⟨z1, z2, z3, z4, z5⟩ := z
  refine ⟨(x.i h0 3).trans z1, z2, fun p hp => ?_, (x.i h0 5).trans z4, (x.i h0 6).trans z5⟩
  rw [x.i h1, x.i h2, x.i h3, x.i h0]
  exact z3 p hp
theorem TR.tm {h : AH} {t m : Nat} {e : St} (z : TR h t m e) (w : WF h) (ht : t = 19 ∨ t = 23) : Tm h t m (yE e) := ⟨w, ht, z.2.1, z.1, fun p hp => ⟨(z.2.2.1 p hp).2.1, (z.2.2.1 p hp).2.2.2.1⟩⟩
/-- all that a rate looks at -/
def RW (h : AH) (t m : Nat) (e : St) (pr : Pr) : Prop := WF h ∧ (t = 19 ∨ t = 23) ∧ TR h t m e ∧ MO h 17 18 m e ∧ PA (fun _ => True) h (hP h 16 7) pr.1 pr.2
section RWs
variable {h h' : AH} {S : List Nat} {t m : Nat} {e : St} {pr : Pr}
theorem RW.w (z : RW h t m e pr) : WF h := z.1
theorem RW.tt (z : RW h t m e pr) : t = 19 ∨ t = 23 := z.2.1
theorem RW.tr (z : RW h t m e pr) : TR h t m e := z.2.2.1
theorem RW.mo (z : RW h t m e pr) : MO h 17 18 m e := z.2.2.2.1
theorem RW.pa (z : RW h t m e pr) : PA (fun _ => True) h (hP h 16 7) pr.1 pr.2 := z.2.2.2.2
theorem RW.tm (z : RW h t m e pr) : Tm h t m (yE e) := z.tr.tm z.w z.tt
theorem RW.m6 (z : RW h t m e pr) : m ≤ 6 := z.tr.2.1
theorem RW.chg (z : RW h t m e pr) (x : Chg S h h') (hS : fxS S = true) (h18 : 18 ∉ S) (h19 : 19 ∉ S ∧ 20 ∉ S ∧ 21 ∉ S ∧ 22 ∉ S) (h23 : t = 23 → 23 ∉ S ∧ 24 ∉ S ∧ 25 ∉ S ∧ 26 ∉ S) : RW h' t m e pr := by
  refine ⟨z.w.chg x, z.tt, ?_, z.mo.chg z.w x hS h18, ?_⟩
  · rcases z.tt with rfl | rfl
    · exact z.tr.chg x h19.1 h19.2.1 h19.2.2.1 h19.2.2.2
    · have := h23 rfl
      exact z.tr.chg x this.1 this.2.1 this.2.2.1 this.2.2.2
  · rw [x.p]
    exact z.pa.chg z.w x hS
end RWs
/-- a method's end: its answer, its heap by what is known of it -/
def retC (v : Option Value) (S : List Nat) (h : AH) : Option Value → AH → Prop := fun v' h' => v' = v ∧ Chg S h h'
def retG (v : Option Value) (P : AH → Prop) : Option Value → AH → Prop := fun v' h' => v' = v ∧ P h'
theorem hI_30 {h : AH} {f : Nat} {v : Int32} {a g : Nat} (ha : a ≠ 30) : hI (sI h 30 f v) a g = hI h a g := hI_sI_ne (fun z => ha z.1)
/-- a look, all of it -/
def lkH (h : AH) (v : Nat → Int32) : AH := sI (sI (sI (sI (sI (sI h 30 0 (v 0)) 30 1 (v 1)) 30 2 (v 2)) 30 3 (v 3)) 30 4 (v 4)) 30 5 (v 5)
theorem lkH_chg (h : AH) (v : Nat → Int32) : Chg [30] h (lkH h v) := (((((Chg.refl.s (List.mem_singleton_self _)).s (List.mem_singleton_self _)).s (List.mem_singleton_self _)).s (List.mem_singleton_self _)).s (List.mem_singleton_self _)).s (List.mem_singleton_self _)
theorem lkE_lt {v v' : Nat → Int32} (hv : ∀ f, f < 6 → v f = v' f) (c : Int32) : lkE v c = lkE v' c := by
  unfold lkE
  rw [hv 0 (by decide), hv 1 (by decide), hv 2 (by decide), hv 3 (by decide), hv 4 (by decide), hv 5 (by decide)]
theorem agE_lt {v v' : Nat → Int32} (hv : ∀ f, f < 6 → v f = v' f) (c s n : Int32) : agE c s n v = agE c s n v' := by unfold agE; rw [lkE_lt hv]
theorem smE_c {b : Bool} {f g : Nat → Bool} : ∀ {n : Nat}, (∀ k, k < n → f k = g k) → smE b f n = smE b g n
  | 0, _ => rfl
  | n + 1, hf => by unfold smE; rw [smE_c (n := n) (fun k hk => hf k (by omega)), hf n (by omega)]
theorem TA.ext {R : Nat → Prop} {h : AH} {v v' : Nat → Int32} (hv : ∀ f, f < 6 → v f = v' f) : ∀ {d : Nat} {a : Nat} {φ : (Nat → Int32) → Bool}, TA d R h a φ → φ v = φ v'
  | 0, a, φ, z => z.elim
  | d + 1, a, φ, z => by
    rcases z.2 with ⟨_, _, rfl⟩ | ⟨_, ψ, y2, rfl⟩ | ⟨_, e, cap, n, b, ψ, _, _, _, _, y6, rfl⟩
    · exact agE_lt hv _ _ _
    · exact congrArg (fun b => !b) (y2.ext hv)
    · exact smE_c (fun k hk => (y6 k hk).ext hv)
theorem foldl_clE {v v' : Nat → Int32} : ∀ (l : List Cl) (s : Int32), (∀ c ∈ l, c.2 v = c.2 v') → l.foldl (clE v) s = l.foldl (clE v') s
  | [], s, _ => rfl
  | c :: l, s, hc => by
    have h1 : clE v s c = clE v' s c := by unfold clE; rw [hc c List.mem_cons_self]
    rw [List.foldl_cons, List.foldl_cons, h1]
    exact foldl_clE l _ (fun c' h' => hc c' (List.mem_cons_of_mem _ h'))
theorem PA.ext {R : Nat → Prop} {h : AH} {a : Nat} {fall : Int32} {l : List Cl} (z : PA R h a fall l) {v v' : Nat → Int32} (hv : ∀ f, f < 6 → v f = v' f) : sumE fall l v = sumE fall l v' := by
  obtain ⟨_, _, _, e, cap, _, _, _, z4⟩ := z
  unfold sumE
  rw [hv 4 (by decide)]
  refine foldl_clE l _ (fun c hc => ?_)
  obtain ⟨k, hk, rfl⟩ := List.getElem_of_mem hc
  exact (z4 k _ (List.getElem?_eq_getElem hk)).2.2.2.ext hv
theorem ev_lkH {h : AH} {v : Nat → Int32} : ∀ f, f < 6 → ev (lkH h v) f = v f := by
  intro f hf
  unfold ev lkH
  rcases f with _ | _ | _ | _ | _ | _ | f
  · simp [hI_sI, hI_sI_ne]
  · simp [hI_sI, hI_sI_ne]
  · simp [hI_sI, hI_sI_ne]
  · simp [hI_sI, hI_sI_ne]
  · simp [hI_sI, hI_sI_ne]
  · simp [hI_sI]
  · omega
theorem c_rateOf {h : AH} {t m : Nat} {e : St} {pr : Pr} (rw : RW h t m e pr) (p y : Nat) (hlt : p < m) (hy : y < 10) : Con mX0_rateOf 26 0 0 [.ref 16, .ref t, .int (nI p), .int (nI y)] h (retG (some (.int (rateE pr e p y))) (fun h' => h' = (lkH h (envE e p (nI y))))) nox := by
  have w := rw.w
  have tm := rw.tm
  have h6 := rw.m6
  have hm := rw.mo p hlt
  have htr := rw.tr
  have htp := htr.2.2.1 p hlt
  have ht := rw.tt
  have hne := fxS_mk w (S := [30]) (by decide +kernel) hm.1.mk
  have hne30 : hP h 17 p ≠ 30 := fun z => hne (by rw [z]; exact List.mem_singleton_self _)
  have x1 := lkH_chg h (envE e p (nI y))
  refine Con.of rfl rfl (Nat.le_of_ble_eq_true rfl) ?_
  refine s_aload_n 0 dX0_rateOf_0 rfl rfl ?_
  refine s_getP dX0_rateOf_1 fl_X0_49 (fo_1_8.at (wk_16 w)) (wp_16_8 w) ?_
  refine s_iload_n 2 dX0_rateOf_4 rfl rfl ?_
  refine s_putJ dX0_rateOf_5 fl_X0_162 (fo_4_0.at (wk_30 w)) (Nat.le_of_ble_eq_true rfl) (Or.inl (fn_at (wk_30 w) rfl)) (ty_at (wk_30 w) rfl) ?_
  refine s_aload_n 0 dX0_rateOf_8 rfl rfl ?_
  refine s_getP dX0_rateOf_9 fl_X0_49 (fo_1_8.at (wk_16 w)) (wp_16_8 w) ?_
  refine s_aload_n 0 dX0_rateOf_12 rfl rfl ?_
  refine s_getP dX0_rateOf_13 fl_X0_17 (fo_1_0.at (wk_16 w)) (wp_16_0 w) ?_
  refine s_iload_n 2 dX0_rateOf_16 rfl rfl ?_
  refine s_aald (j := p) (jj := 6) dX0_rateOf_17 (wk_17 w) rfl (ixn (wn_17 w) (ix_nI (by omega) (by decide))) (show hP _ 17 p = hP h 17 p from rfl) ?_
  refine v_kind hm.1.1 hm.1.2.1.1 dX0_rateOf_18 q505 (by decide) (Nat.le_of_ble_eq_true rfl) ?_
  rw [← hm.2.1]
  refine s_putJ dX0_rateOf_21 fl_X0_169 (fo_4_1.at (wk_30 w)) (Nat.le_of_ble_eq_true rfl) (Or.inl (fn_at (wk_30 w) rfl)) (ty_at (wk_30 w) rfl) ?_
  refine s_aload_n 0 dX0_rateOf_24 rfl rfl ?_
  refine s_getP dX0_rateOf_25 fl_X0_49 (fo_1_8.at (wk_16 w)) (wp_16_8 w) ?_
  refine s_aload_n 0 dX0_rateOf_28 rfl rfl ?_
  refine s_getP dX0_rateOf_29 fl_X0_17 (fo_1_0.at (wk_16 w)) (wp_16_0 w) ?_
  refine s_iload_n 2 dX0_rateOf_32 rfl rfl ?_
  refine s_aald (j := p) (jj := 6) dX0_rateOf_33 (wk_17 w) rfl (ixn (wn_17 w) (ix_nI (by omega) (by decide))) (show hP _ 17 p = hP h 17 p from rfl) ?_
  refine s_getI dX0_rateOf_34 fl_X0_171 (fo_M_2 hm.1.mk) ?_
  rw [hI_30 hne30, hI_30 hne30, hm.1.2.2.2.2]
  refine s_putJ dX0_rateOf_37 fl_X0_174 (fo_4_2.at (wk_30 w)) (Nat.le_of_ble_eq_true rfl) (Or.inl (fn_at (wk_30 w) rfl)) (ty_at (wk_30 w) rfl) ?_
  refine s_aload_n 0 dX0_rateOf_40 rfl rfl ?_
  refine s_getP dX0_rateOf_41 fl_X0_49 (fo_1_8.at (wk_16 w)) (wp_16_8 w) ?_
  refine s_aload_n 1 dX0_rateOf_44 rfl rfl ?_
  refine s_getP dX0_rateOf_45 fl_X0_150 (fo_2_0.at tm.k) tm.p0 ?_
  refine s_iload_n 2 dX0_rateOf_48 rfl rfl ?_
  refine s_bald (j := p) dX0_rateOf_49 tm.k1 (ixn (tm.n1) (ix_nI (by omega) (by decide))) ?_
  rw [hI_30 (by omega), hI_30 (by omega), hI_30 (by omega), htp.1]
  refine s_putJ dX0_rateOf_50 fl_X0_175 (fo_4_3.at (wk_30 w)) (Nat.le_of_ble_eq_true rfl) (Or.inl (fn_at (wk_30 w) rfl)) (ty_at (wk_30 w) rfl) ?_
  refine s_aload_n 0 dX0_rateOf_53 rfl rfl ?_
  refine s_getP dX0_rateOf_54 fl_X0_49 (fo_1_8.at (wk_16 w)) (wp_16_8 w) ?_
  refine s_iload_n 3 dX0_rateOf_57 rfl rfl ?_
  refine s_putJ dX0_rateOf_58 fl_X0_178 (fo_4_4.at (wk_30 w)) (Nat.le_of_ble_eq_true rfl) (Or.inl (fn_at (wk_30 w) rfl)) (ty_at (wk_30 w) rfl) ?_
  refine s_aload_n 0 dX0_rateOf_61 rfl rfl ?_
  refine s_getP dX0_rateOf_62 fl_X0_49 (fo_1_8.at (wk_16 w)) (wp_16_8 w) ?_
  refine s_aload_n 1 dX0_rateOf_65 rfl rfl ?_
  refine s_getI dX0_rateOf_66 fl_X0_181 (fo_2_6.at tm.k) ?_
  rw [hI_30 (by omega), hI_30 (by omega), hI_30 (by omega), hI_30 (by omega), hI_30 (by omega), htr.2.2.2.2]
  refine s_bipush (v := 10) dX0_rateOf_69 rfl ?_
  refine s_irem dX0_rateOf_71 (by decide) ?_
  refine s_putJ dX0_rateOf_72 fl_X0_184 (fo_4_5.at (wk_30 w)) (Nat.le_of_ble_eq_true rfl) (Or.inl (fn_at (wk_30 w) rfl)) (ty_at (wk_30 w) rfl) ?_
  show AW _ _ _ _ _ _ _ _ _ (lkH h (envE e p (nI y)))
  refine s_aload_n 0 dX0_rateOf_75 rfl rfl ?_
  refine s_getP dX0_rateOf_76 fl_X0_17 (fo_1_0.at (wk_16 w)) (wp_16_0 w) ?_
  refine s_iload_n 2 dX0_rateOf_79 rfl rfl ?_
  refine s_aald (j := p) (jj := 6) dX0_rateOf_80 (wk_17 w) rfl (ixn (wn_17 w) (ix_nI (by omega) (by decide))) (show hP _ 17 p = hP h 17 p from rfl) ?_
  refine s_aload_n 0 dX0_rateOf_81 rfl rfl ?_
  refine s_getP dX0_rateOf_82 fl_X0_42 (fo_1_7.at (wk_16 w)) rfl ?_
  refine s_aload_n 0 dX0_rateOf_85 rfl rfl ?_
  refine s_getP dX0_rateOf_86 fl_X0_49 (fo_1_8.at (wk_16 w)) (wp_16_8 w) ?_
  refine s_callV_p (M2 := mX2_sum) dX0_rateOf_89 q528 bX2_sum inX2_sum.2 q530 rfl (c_sum (w.chg x1) (rw.pa.chg w x1 (by decide +kernel))) rfl rfl (rk rw.pa.2.1 rfl rfl) ⟨by decide, by decide, by decide⟩ (Nat.le_of_ble_eq_true rfl) ?_
  rw [rw.pa.ext (v' := envE e p (nI y)) ev_lkH]
  refine s_iload_n 3 dX0_rateOf_92 rfl rfl ?_
  refine s_aload_n 1 dX0_rateOf_93 rfl rfl ?_
  refine s_getI dX0_rateOf_94 fl_X0_181 (fo_2_6.at tm.k) ?_
  rw [x1.i (by simp; omega), htr.2.2.2.2]
  refine v_rates (w.chg x1) (hm.1.chg w x1 (by decide +kernel)) (by omega) (fun k6 => by rw [x1.p]; exact hm.2.2.1 k6) _ y hy _ dX0_rateOf_97 q572 (by decide) (Nat.le_of_ble_eq_true rfl) ?_
  rw [show rwE (lkH h (envE e p (nI y))) p y = e (10 * p + 6 + y % 4) from (x1.i (by decide) _).trans (hm.2.2.2 (y % 4) (by omega))]
  exact s_ireturn .int dX0_rateOf_100 rfl rfl ⟨rfl, rfl⟩
