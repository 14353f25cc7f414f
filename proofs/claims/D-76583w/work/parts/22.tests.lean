/-! tests and parishes: what they hold of a look -/
set_option maxRecDepth 100000
/-- a look's six numbers; one of them by its letter; a comparison -/
def ev (h : AH) : Nat → Int32 := fun f => hI h 30 f
def lkE (v : Nat → Int32) (c : Int32) : Int32 := if c = 112 then v 0 else if c = 107 then v 1 else if c = 118 then v 2 else if c = 108 then v 3 else if c = 121 then v 4 else v 5
def agE (c s n : Int32) (v : Nat → Int32) : Bool := if s = 60 then decide (lkE v c < n) else if s = 61 then decide (lkE v c = n) else decide (n < lkE v c)
/-- all (b) or some (not b) of the first n -/
def smE (b : Bool) (f : Nat → Bool) : Nat → Bool
  | 0 => b
  | n + 1 => if b = true then smE b f n && f n else smE b f n || f n
theorem smE_all {b : Bool} {f : Nat → Bool} : ∀ {n : Nat}, (∀ j, j < n → f j = b) → smE b f n = b
  | 0, _ => rfl
  | n + 1, hf => by
    have h1 := smE_all (b := b) (f := f) (n := n) (fun j hj => hf j (by omega))
    have h2 := hf n (by omega)
    unfold smE
    rw [h1, h2]
    cases b <;> rfl
theorem smE_ex {b : Bool} {f : Nat → Bool} {p : Nat} (hp : ¬ f p = b) : ∀ {n : Nat}, p < n → smE b f n = !b
  | 0, h => by omega
  | n + 1, h => by
    unfold smE
    by_cases e : p = n
    · subst e
      cases b <;> cases hx : f p <;> cases hy : smE _ f p <;> simp_all
    · rw [smE_ex hp (n := n) (by omega)]
      cases b <;> cases hx : f n <;> simp_all
/-- the kinds that a parish is made of -/
def frK (k : Nat) : Bool := k == 3 || k == 17 || k == 19 || k == 20 || k == 21 || k == 22 || k == 108
/-- the test at a, at most d deep, made of things in R, is φ of a look -/
def TA : Nat → (Nat → Prop) → AH → Nat → ((Nat → Int32) → Bool) → Prop
  | 0, _, _, _, _ => False
  | d + 1, R, h, a, φ => R a ∧ ((hK h a = 21 ∧ isLet (hI h a 0) ∧ φ = agE (hI h a 0) (hI h a 1) (hI h a 2)) ∨
    (hK h a = 20 ∧ ∃ ψ, TA d R h (hP h a 0) ψ ∧ φ = fun v => !ψ v) ∨
    (hK h a = 19 ∧ ∃ (e cap n : Nat) (b : Bool) (ψ : Nat → (Nat → Int32) → Bool), AL h (hP h a 1) e cap n ∧ R (hP h a 1) ∧ R e ∧ hI h a 0 = b2i b ∧ (∀ k, k < n → TA d R h (hP h e k) (ψ k)) ∧ φ = fun v => smE b (fun k => ψ k v) n))
theorem TA.r {d : Nat} {R : Nat → Prop} {h : AH} {a : Nat} {φ : (Nat → Int32) → Bool} (z : TA d R h a φ) : R a := by
  cases d with
  | zero => exact z.elim
  | succ d => exact z.1
theorem TA.k {d : Nat} {R : Nat → Prop} {h : AH} {a : Nat} {φ : (Nat → Int32) → Bool} (z : TA d R h a φ) : hK h a = 19 ∨ hK h a = 20 ∨ hK h a = 21 := by
  cases d with
  | zero => exact z.elim
  | succ d =>
    rcases z.2 with y | y | y
    · exact Or.inr (Or.inr y.1)
    · exact Or.inr (Or.inl y.1)
    · exact Or.inl y.1
theorem TA.fr {d : Nat} {R : Nat → Prop} {h : AH} {a : Nat} {φ : (Nat → Int32) → Bool} (z : TA d R h a φ) : frK (hK h a) = true := by
  rcases z.k with e | e | e <;> rw [e] <;> rfl
theorem TA.mono {R R' : Nat → Prop} (hR : ∀ x, R x → R' x) {h : AH} : ∀ {d : Nat} {a : Nat} {φ : (Nat → Int32) → Bool}, TA d R h a φ → TA d R' h a φ
  | 0, a, φ, z => z
  | d + 1, a, φ, z => by
    refine ⟨hR _ z.1, ?_⟩
    rcases z.2 with y | ⟨y, ψ, y2, y3⟩ | ⟨y, e, cap, n, b, ψ, y2, y3, y4, y5, y6, y7⟩
    · exact Or.inl y
    · exact Or.inr (Or.inl ⟨y, ψ, y2.mono hR, y3⟩)
    · exact Or.inr (Or.inr ⟨y, e, cap, n, b, ψ, y2, hR _ y3, hR _ y4, y5, fun k hk => (y6 k hk).mono hR, y7⟩)
theorem TA.deep {R : Nat → Prop} {h : AH} : ∀ {d : Nat} {a : Nat} {φ : (Nat → Int32) → Bool}, TA d R h a φ → TA (d + 1) R h a φ
  | 0, a, φ, z => z.elim
  | d + 1, a, φ, z => by
    refine ⟨z.1, ?_⟩
    rcases z.2 with y | ⟨y, ψ, y2, y3⟩ | ⟨y, e, cap, n, b, ψ, y2, y3, y4, y5, y6, y7⟩
    · exact Or.inl y
    · exact Or.inr (Or.inl ⟨y, ψ, y2.deep, y3⟩)
    · exact Or.inr (Or.inr ⟨y, e, cap, n, b, ψ, y2, y3, y4, y5, fun k hk => (y6 k hk).deep, y7⟩)
theorem TA.le {R : Nat → Prop} {h : AH} {d d' : Nat} {a : Nat} {φ : (Nat → Int32) → Bool} (z : TA d R h a φ) (hd : d ≤ d') : TA d' R h a φ := by
  obtain ⟨k, rfl⟩ : ∃ k, d' = d + k := ⟨d' - d, by omega⟩
  clear hd
  induction k with
  | zero => exact z
  | succ k ih => exact ih.deep
/-- a thing is the same in two heaps -/
def Sm (h h' : AH) (a : Nat) : Prop := hK h' a = hK h a ∧ hN h' a = hN h a ∧ (∀ f, hI h' a f = hI h a f) ∧ ∀ f, hP h' a f = hP h a f
theorem Sm.refl (h : AH) (a : Nat) : Sm h h a := ⟨rfl, rfl, fun _ => rfl, fun _ => rfl⟩
theorem Sm.trans {h h' h'' : AH} {a : Nat} (x : Sm h h' a) (y : Sm h' h'' a) : Sm h h'' a := ⟨y.1.trans x.1, y.2.1.trans x.2.1, fun f => (y.2.2.1 f).trans (x.2.2.1 f), fun f => (y.2.2.2 f).trans (x.2.2.2 f)⟩
/-- lists of things that stay -/
theorem AL.keep {h h' : AH} {a e cap n : Nat} (z : AL h a e cap n) (h1 : Sm h h' a) (h2 : Sm h h' e) (h3 : ∀ k, k < n → hK h' (hP h e k) = hK h (hP h e k)) : AL h' a e cap n := by
  obtain ⟨z1, z2, z3, z4, z5, z6, z7, z8, z9, z10, z11⟩ := z
  exact ⟨h1.1.trans z1, z2, (h1.2.2.2 1).trans z3, h2.1.trans z4, z5, h2.2.1.trans z6, (h1.2.2.1 2).trans z7, z8, z9, z10, fun k hk => by rw [h2.2.2.2 k, h3 k hk]; exact z11 k hk⟩
theorem TA.keep {R : Nat → Prop} {h h' : AH} (hs : ∀ x, R x → frK (hK h x) = true → Sm h h' x) : ∀ {d : Nat} {a : Nat} {φ : (Nat → Int32) → Bool}, TA d R h a φ → TA d R h' a φ
  | 0, a, φ, z => z
  | d + 1, a, φ, z => by
    have hf := z.fr
    have h0 := hs a z.1 hf
    refine ⟨z.1, ?_⟩
    rcases z.2 with y | ⟨y, ψ, y2, y3⟩ | ⟨y, e, cap, n, b, ψ, y2, y3, y4, y5, y6, y7⟩
    · refine Or.inl ?_
      rw [h0.1, h0.2.2.1, h0.2.2.1, h0.2.2.1]
      exact y
    · refine Or.inr (Or.inl ?_)
      rw [h0.1, h0.2.2.2]
      exact ⟨y, ψ, y2.keep hs, y3⟩
    · refine Or.inr (Or.inr ?_)
      have h1 := hs _ y3 (by rw [y2.k]; rfl)
      have h2 := hs e y4 (by rw [y2.ke]; rfl)
      rw [h0.1, h0.2.2.2, h0.2.2.1]
      refine ⟨y, e, cap, n, b, ψ, y2.keep h1 h2 (fun k hk => (hs _ (y6 k hk).r (y6 k hk).fr).1), y3, y4, y5, fun k hk => ?_, y7⟩
      rw [h2.2.2.2 k]
      exact (y6 k hk).keep hs
/-- holds, of a test at most d deep, wherever it's called -/
def HoP (d : Nat) : Prop := ∀ {M : AMt} {d' : Nat} {post : Option Value → AH → Prop} {px : Nat → AH → Prop} {rc rs pc idx : Nat} {ls : List (Nat × Value)} {st : List Value} {h : AH} {a : Nat} {R : Nat → Prop} {φ : (Nat → Int32) → Bool}, WF h → TA d R h a φ →
  decode (mC M) pc = .ok (.invokevirtual idx, 3) → Cond.methodLink (mY M).cls idx ⟨"FuneralDebts$Test", "holds", "(LFuneralDebts$Look;)Z"⟩ ∈ lw_all → d + 4 ≤ d' → (st.map fun v => v.category).sum ≤ 12 →
  AW M d' post px rc rs (pc + 3) ls (.int (b2i (φ (ev h))) :: st) h → AW M d' post px rc rs pc ls (.ref 30 :: .ref a :: st) h
theorem teCa {k : Nat} (e : k = 19 ∨ k = 20 ∨ k = 21) : Ca k "FuneralDebts$Test" := by
  rcases e with e | e | e <;> subst e
  · exact ⟨rfl, q1758⟩
  · exact ⟨rfl, q1757⟩
  · exact ⟨rfl, q1756⟩
theorem b2i_inj {a b : Bool} (e : b2i a = b2i b) : a = b := by cases a <;> cases b <;> first | rfl | (exact absurd e (by decide))
theorem c_ntHolds {d : Nat} (ihd : HoP d) {h : AH} (w : WF h) {a : Nat} {R : Nat → Prop} {ψ : (Nat → Int32) → Bool} (hk : hK h a = 20) (z : TA d R h (hP h a 0) ψ) : Con mX19_holds (d + 4) 0 0 [.ref a, .ref 30] h (retV (.int (b2i (!ψ (ev h)))) h) nox := by
  refine Con.of rfl rfl (Nat.le_of_ble_eq_true rfl) ?_
  refine s_aload_n 0 dX19_holds_0 rfl rfl ?_
  refine s_getP dX19_holds_1 fl_X19_7 (fo_20_0.at hk) rfl ?_
  refine s_aload_n 1 dX19_holds_4 rfl rfl ?_
  refine ihd w z dX19_holds_5 q564 (by omega) (Nat.le_of_ble_eq_true rfl) ?_
  refine s_ifne_b 15 dX19_holds_8 (by decide) (fun c8 => ?_) (fun c8 => ?_)
  · skip
    refine s_iconst (v := 0) dX19_holds_15 rfl ?_
    exact s_ireturn .boolean dX19_holds_16 rfl rfl (rvf (by rw [c8]; rfl))
  · skip
    refine s_iconst (v := 1) dX19_holds_11 rfl ?_
    refine s_goto 16 dX19_holds_12 (by decide) ?_
    exact s_ireturn .boolean dX19_holds_16 rfl rfl (rvt (by rw [c8]; rfl))
theorem c_smHolds {d : Nat} (ihd : HoP d) {h : AH} (w : WF h) {a e cap n : Nat} {b : Bool} {R : Nat → Prop} {ψ : Nat → (Nat → Int32) → Bool} (hk : hK h a = 19) (al : AL h (hP h a 1) e cap n) (hb : hI h a 0 = b2i b) (z : ∀ k, k < n → TA d R h (hP h e k) (ψ k)) : Con mX18_holds (d + 4) 0 0 [.ref a, .ref 30] h (retV (.int (b2i (smE b (fun k => ψ k (ev h)) n))) h) nox := by
  have hn100 := al.n100
  refine Con.of rfl rfl (Nat.le_of_ble_eq_true rfl) ?_
  refine s_iconst (v := 0) dX18_holds_0 rfl ?_
  refine s_istore_n (ls' := [(2, _), (0, _), (1, _)]) 2 dX18_holds_1 rfl (by decide) rfl ?_
  have L2 : ∀ p : Nat, p ≤ n → (∀ j, j < p → ψ j (ev h) = b) → AW mX18_holds (d + 4) (retV (.int (b2i (smE b (fun k => ψ k (ev h)) n))) h) nox 0 0 2 [(2, .int (nI p)), (0, .ref a), (1, .ref 30)] [] h := by
    refine for_up (fun p hpp ih => ?_)
    intro hall
    refine s_iload_n 2 dX18_holds_2 rfl rfl ?_
    refine s_aload_n 0 dX18_holds_3 rfl rfl ?_
    refine s_getP dX18_holds_4 fl_X18_10 (fo_19_1.at hk) rfl ?_
    refine s_callV_p (M2 := mJ2_size) dX18_holds_7 q567 bJ2_size inJ2_size.2 q534 rfl (c_ALsize al) rfl rfl (rk al.k rfl rfl) ⟨by omega, by decide, by decide⟩ (Nat.le_of_ble_eq_true rfl) ?_
    refine s_icmp_ge 54 dX18_holds_10 (by decide) (fun c10 => ?_) (fun c10 => ?_)
    · skip
      have hge : n ≤ p := le_ge (y := nI n) rfl (by omega) (by omega) c10
      obtain rfl : p = n := by omega
      refine s_aload_n 0 dX18_holds_54 rfl rfl ?_
      refine s_getI dX18_holds_55 fl_X18_16 (fo_19_0.at hk) ?_
      rw [hb]
      exact s_ireturn .boolean dX18_holds_58 rfl (nb2i _) (rve (congrArg b2i (smE_all hall)))
    · skip
      have hlt : p < n := nle_lt (y := nI n) rfl (by omega) (by omega) c10
      refine s_aload_n 0 dX18_holds_13 rfl rfl ?_
      refine s_getP dX18_holds_14 fl_X18_10 (fo_19_1.at hk) rfl ?_
      refine s_iload_n 2 dX18_holds_17 rfl rfl ?_
      refine s_callV_p (M2 := mJ2_get) dX18_holds_18 q568 bJ2_get inJ2_get.2 q538 rfl (c_ALget al _ hlt) rfl rfl (rk al.k rfl rfl) ⟨by omega, by decide, by decide⟩ (Nat.le_of_ble_eq_true rfl) ?_
      refine s_castY "FuneralDebts$Test" dX18_holds_21 q569 (fun _ => Or.inl (teCa (z p hlt).k)) ?_
      refine s_aload_n 1 dX18_holds_24 rfl rfl ?_
      refine ihd w (z p hlt) dX18_holds_25 q570 (by omega) (Nat.le_of_ble_eq_true rfl) ?_
      refine s_aload_n 0 dX18_holds_28 rfl rfl ?_
      refine s_getI dX18_holds_29 fl_X18_16 (fo_19_0.at hk) ?_
      rw [hb]
      refine s_icmp_eq 48 dX18_holds_32 (by decide) (fun c32 => ?_) (fun c32 => ?_)
      · skip
        refine s_iinc (v := nI (p + 1)) (ls' := [(2, _), (0, _), (1, _)]) dX18_holds_48 rfl (nI_succ p).symm (by decide) rfl ?_
        refine s_goto 2 dX18_holds_51 (by decide) ?_
        exact AW.lc (ih hlt (fun j hj => by by_cases y : j = p; (subst y; exact b2i_inj c32); exact hall j (by omega))) ⟨rfl, rfl, rfl, trivial⟩
      · skip
        refine s_aload_n 0 dX18_holds_35 rfl rfl ?_
        refine s_getI dX18_holds_36 fl_X18_16 (fo_19_0.at hk) ?_
        rw [hb]
        refine s_ifne_b 46 dX18_holds_39 (by decide) (fun c39 => ?_) (fun c39 => ?_)
        · skip
          refine s_iconst (v := 0) dX18_holds_46 rfl ?_
          exact s_ireturn .boolean dX18_holds_47 rfl rfl (rvf (by rw [smE_ex (p := p) (fun y => c32 (congrArg b2i y)) hlt, c39]; rfl))
        · skip
          refine s_iconst (v := 1) dX18_holds_42 rfl ?_
          refine s_goto 47 dX18_holds_43 (by decide) ?_
          exact s_ireturn .boolean dX18_holds_47 rfl rfl (rvt (by rw [smE_ex (p := p) (fun y => c32 (congrArg b2i y)) hlt, c39]; rfl))
  exact AW.lc (L2 0 (Nat.zero_le _) (fun j hj => absurd hj (Nat.not_lt_zero j))) ⟨rfl, rfl, rfl, trivial⟩
theorem v_holds : ∀ d, HoP d := by
  intro d
  induction d with
  | zero => intro M d' post px rc rs pc idx ls st h a R φ w z; exact z.elim
  | succ d ih =>
    intro M d' post px rc rs pc idx ls st h a R φ w z hd q1 hroom hst kk
    have kx : ∀ {X : Nat}, ∀ (a1 : Nat) (h1 : AH), nox a1 h1 → AWX M d' post px (rc - 0) (rs - 0) pc ls a1 h1 := fun _ _ z9 => z9.elim
    rcases z.2 with ⟨hk, hc, rfl⟩ | ⟨hk, ψ, hz, rfl⟩ | ⟨hk, e, cap, n, b, ψ, al, _, _, hb, hz, rfl⟩
    · exact s_callVU (M2 := mX20_holds) (as := [.ref 30]) hd (x := ⟨"FuneralDebts$Test", "holds", "(LFuneralDebts$Look;)Z"⟩) "FuneralDebts$Test" q1 q553 (Or.inl q552) ⟨by decide, by decide⟩ (by decide +kernel) bX20_holds inX20_holds.2 q554 rfl (c_agHolds a h w hk hc) rfl rfl (rk hk rfl rfl) ⟨by omega, by omega, by omega⟩ hst (fun v9 h9 z9 => by obtain ⟨rfl, rfl⟩ := z9; exact kk) (fun _ _ z9 => z9.elim)
    · exact s_callVU (M2 := mX19_holds) (as := [.ref 30]) hd (x := ⟨"FuneralDebts$Test", "holds", "(LFuneralDebts$Look;)Z"⟩) "FuneralDebts$Test" q1 q553 (Or.inl q552) ⟨by decide, by decide⟩ (by decide +kernel) bX19_holds inX19_holds.2 q561 rfl (c_ntHolds ih w hk hz) rfl rfl (rk hk rfl rfl) ⟨by omega, by omega, by omega⟩ hst (fun v9 h9 z9 => by obtain ⟨rfl, rfl⟩ := z9; exact kk) (fun _ _ z9 => z9.elim)
    · exact s_callVU (M2 := mX18_holds) (as := [.ref 30]) hd (x := ⟨"FuneralDebts$Test", "holds", "(LFuneralDebts$Look;)Z"⟩) "FuneralDebts$Test" q1 q553 (Or.inl q552) ⟨by decide, by decide⟩ (by decide +kernel) bX18_holds inX18_holds.2 q571 rfl (c_smHolds ih w hk al hb hz) rfl rfl (rk hk rfl rfl) ⟨by omega, by omega, by omega⟩ hst (fun v9 h9 z9 => by obtain ⟨rfl, rfl⟩ := z9; exact kk) (fun _ _ z9 => z9.elim)
/-- a clause: its number, its test -/
abbrev Cl : Type := Int32 × ((Nat → Int32) → Bool)
def clE (v : Nat → Int32) (s : Int32) (c : Cl) : Int32 := if c.2 v = true then s + c.1 else s
/-- a parish's sum: of its fall and its clauses -/
def sumE (fall : Int32) (l : List Cl) (v : Nat → Int32) : Int32 := l.foldl (clE v) (20 - fall * v 4)
/-- a clause at a -/
def CA (R : Nat → Prop) (h : AH) (a : Nat) (c : Cl) : Prop := R a ∧ hK h a = 17 ∧ hI h a 0 = c.1 ∧ TA 20 R h (hP h a 1) c.2
/-- a parish at a -/
def PA (R : Nat → Prop) (h : AH) (a : Nat) (fall : Int32) (l : List Cl) : Prop := R a ∧ hK h a = 3 ∧ hI h a 2 = fall ∧ ∃ e cap, AL h (hP h a 0) e cap l.length ∧ R (hP h a 0) ∧ R e ∧ ∀ k c, l[k]? = some c → CA R h (hP h e k) c
theorem CA.keep {R : Nat → Prop} {h h' : AH} (hs : ∀ x, R x → frK (hK h x) = true → Sm h h' x) {a : Nat} {c : Cl} (z : CA R h a c) : CA R h' a c := by
  have h0 := hs a z.1 (by rw [z.2.1]; rfl)
  refine ⟨z.1, h0.1.trans z.2.1, (h0.2.2.1 0).trans z.2.2.1, ?_⟩
  rw [h0.2.2.2]
  exact z.2.2.2.keep hs
theorem PA.keep {R : Nat → Prop} {h h' : AH} (hs : ∀ x, R x → frK (hK h x) = true → Sm h h' x) {a : Nat} {fall : Int32} {l : List Cl} (z : PA R h a fall l) : PA R h' a fall l := by
  have h0 := hs a z.1 (by rw [z.2.1]; rfl)
  obtain ⟨z1, z2, z3, e, cap, al, r1, r2, z4⟩ := z
  have h1 := hs _ r1 (by rw [al.k]; rfl)
  have h2 := hs e r2 (by rw [al.ke]; rfl)
  refine ⟨z1, h0.1.trans z2, (h0.2.2.1 2).trans z3, e, cap, ?_, ?_, r2, fun k c hk => ?_⟩
  · rw [h0.2.2.2]
    refine al.keep h1 h2 (fun k hk => ?_)
    have := z4 k l[k] (List.getElem?_eq_getElem hk)
    exact (hs _ this.1 (by rw [this.2.1]; rfl)).1
  · rw [h0.2.2.2]; exact r1
  · rw [h2.2.2.2]
    exact (z4 k c hk).keep hs
theorem PA.mono {R R' : Nat → Prop} (hR : ∀ x, R x → R' x) {h : AH} {a : Nat} {fall : Int32} {l : List Cl} (z : PA R h a fall l) : PA R' h a fall l := by
  obtain ⟨z1, z2, z3, e, cap, al, r1, r2, z4⟩ := z
  exact ⟨hR _ z1, z2, z3, e, cap, al, hR _ r1, hR _ r2, fun k c hk => ⟨hR _ (z4 k c hk).1, (z4 k c hk).2.1, (z4 k c hk).2.2.1, (z4 k c hk).2.2.2.mono hR⟩⟩
theorem clE_take {v : Nat → Int32} {s : Int32} {l : List Cl} {p : Nat} (hp : p < l.length) : (l.take (p + 1)).foldl (clE v) s = clE v ((l.take p).foldl (clE v) s) l[p] := by
  rw [List.take_succ_eq_append_getElem hp, List.foldl_append]
  rfl
theorem c_sum {h : AH} (w : WF h) {a : Nat} {R : Nat → Prop} {fall : Int32} {l : List Cl} (z : PA R h a fall l) : Con mX2_sum 25 0 0 [.ref a, .ref 30] h (retV (.int (sumE fall l (ev h))) h) nox := by
  obtain ⟨z1, hk, hf, e, cap, al, r1, r2, z4⟩ := z
  have hn100 := al.n100
  refine Con.of rfl rfl (Nat.le_of_ble_eq_true rfl) ?_
  refine s_bipush (v := 20) dX2_sum_0 rfl ?_
  refine s_aload_n 0 dX2_sum_2 rfl rfl ?_
  refine s_getI dX2_sum_3 fl_X2_18 (fo_3_2.at hk) ?_
  rw [hf]
  refine s_aload_n 1 dX2_sum_6 rfl rfl ?_
  refine s_getI dX2_sum_7 fl_X2_22 (fo_4_4.at (wk_30 w)) ?_
  refine s_imul dX2_sum_10 ?_
  refine s_isub dX2_sum_11 ?_
  refine s_istore_n (ls' := [(2, _), (0, _), (1, _)]) 2 dX2_sum_12 rfl (by decide) rfl ?_
  refine s_iconst (v := 0) dX2_sum_13 rfl ?_
  refine s_istore_n (ls' := [(3, _), (2, _), (0, _), (1, _)]) 3 dX2_sum_14 rfl (by decide) rfl ?_
  have L15 : ∀ p : Nat, p ≤ l.length → AW mX2_sum 25 (retV (.int (sumE fall l (ev h))) h) nox 0 0 15 [(3, .int (nI p)), (2, .int ((l.take p).foldl (clE (ev h)) (20 - fall * ev h 4))), (0, .ref a), (1, .ref 30)] [] h := by
    refine for_up (fun p hpp ih => ?_)
    refine s_iload_n 3 dX2_sum_15 rfl rfl ?_
    refine s_aload_n 0 dX2_sum_16 rfl rfl ?_
    refine s_getP dX2_sum_17 fl_X2_12 (fo_3_0.at hk) rfl ?_
    refine s_callV_p (M2 := mJ2_size) dX2_sum_20 q532 bJ2_size inJ2_size.2 q534 rfl (c_ALsize al) rfl rfl (rk al.k rfl rfl) ⟨by decide, by decide, by decide⟩ (Nat.le_of_ble_eq_true rfl) ?_
    refine s_icmp_ge 70 dX2_sum_23 (by decide) (fun c23 => ?_) (fun c23 => ?_)
    · skip
      have hge : l.length ≤ p := le_ge (y := nI l.length) rfl (by omega) (by omega) c23
      obtain rfl : p = l.length := by omega
      refine s_iload_n 2 dX2_sum_70 rfl rfl ?_
      exact s_ireturn .int dX2_sum_71 rfl rfl (rve (by rw [List.take_length]; rfl))
    · skip
      have hlt : p < l.length := nle_lt (y := nI l.length) rfl (by omega) (by omega) c23
      have hc := z4 p l[p] (List.getElem?_eq_getElem hlt)
      refine s_aload_n 0 dX2_sum_26 rfl rfl ?_
      refine s_getP dX2_sum_27 fl_X2_12 (fo_3_0.at hk) rfl ?_
      refine s_iload_n 3 dX2_sum_30 rfl rfl ?_
      refine s_callV_p (M2 := mJ2_get) dX2_sum_31 q536 bJ2_get inJ2_get.2 q538 rfl (c_ALget al _ hlt) rfl rfl (rk al.k rfl rfl) ⟨by decide, by decide, by decide⟩ (Nat.le_of_ble_eq_true rfl) ?_
      refine s_castY "FuneralDebts$Clause" dX2_sum_34 q550 (fun _ => Or.inr ⟨by rw [hc.2.1]; rfl, by rw [hc.2.1]; rfl⟩) ?_
      refine s_getP dX2_sum_37 fl_X2_37 (fo_17_1.at hc.2.1) rfl ?_
      refine s_aload_n 1 dX2_sum_40 rfl rfl ?_
      refine v_holds 20 w hc.2.2.2 dX2_sum_41 q551 (by omega) (Nat.le_of_ble_eq_true rfl) ?_
      refine s_ifeq_b 64 dX2_sum_44 (by decide) (fun c44 => ?_) (fun c44 => ?_)
      · skip
        refine s_iinc (v := nI (p + 1)) (ls' := [(3, _), (2, _), (0, _), (1, _)]) dX2_sum_64 rfl (nI_succ p).symm (by decide) rfl ?_
        refine s_goto 15 dX2_sum_67 (by decide) ?_
        exact AW.lc (ih hlt ) ⟨rfl, (congrArg (fun x => some (Value.int x)) ((clE_take hlt).trans (if_neg (by rw [c44]; exact Bool.false_ne_true))).symm), rfl, rfl, trivial⟩
      · skip
        refine s_iload_n 2 dX2_sum_47 rfl rfl ?_
        refine s_aload_n 0 dX2_sum_48 rfl rfl ?_
        refine s_getP dX2_sum_49 fl_X2_12 (fo_3_0.at hk) rfl ?_
        refine s_iload_n 3 dX2_sum_52 rfl rfl ?_
        refine s_callV_p (M2 := mJ2_get) dX2_sum_53 q536 bJ2_get inJ2_get.2 q538 rfl (c_ALget al _ hlt) rfl rfl (rk al.k rfl rfl) ⟨by decide, by decide, by decide⟩ (Nat.le_of_ble_eq_true rfl) ?_
        refine s_castY "FuneralDebts$Clause" dX2_sum_56 q550 (fun _ => Or.inr ⟨by rw [hc.2.1]; rfl, by rw [hc.2.1]; rfl⟩) ?_
        refine s_getI dX2_sum_59 fl_X2_47 (fo_17_0.at hc.2.1) ?_
        rw [hc.2.2.1]
        refine s_iadd dX2_sum_62 ?_
        refine s_istore_n (ls' := [(2, _), (3, _), (0, _), (1, _)]) 2 dX2_sum_63 rfl (by decide) rfl ?_
        refine s_iinc (v := nI (p + 1)) (ls' := [(3, _), (2, _), (0, _), (1, _)]) dX2_sum_64 rfl (nI_succ p).symm (by decide) rfl ?_
        refine s_goto 15 dX2_sum_67 (by decide) ?_
        exact AW.lc (ih hlt ) ⟨rfl, (congrArg (fun x => some (Value.int x)) ((clE_take hlt).trans (if_pos c44)).symm), rfl, rfl, trivial⟩
  exact AW.lc (L15 0 (Nat.zero_le _) ) ⟨rfl, rfl, rfl, rfl, trivial⟩
