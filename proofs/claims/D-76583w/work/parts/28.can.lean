/-! the component: can, ends, looked -/
set_option maxRecDepth 100000
/-- one's v is another -/
theorem RW.v {h : AH} {t m : Nat} {e : St} {pr : Pr} (rw : RW h t m e pr) {p : Nat} (hp : p < m) (v : Int32) : RW (sI h (hP h 17 p) 2 v) t m (upE e (10 * p + 1) v) pr := by
  have ht := rw.tt
  have h6 := rw.m6
  have w := rw.w
  have hm := (rw.mo p hp).1
  have hmk := hm.mk
  have x : Chg [hP h 17 p] h (sI h (hP h 17 p) 2 v) := Chg.refl.s (List.mem_singleton_self _)
  have hne : ∀ b, fxA b = true → b ∉ [hP h 17 p] := fun b hb z => by
    have := List.mem_singleton.mp z
    subst this
    exact fxS_mk w (S := [hP h 17 p]) (by show (fxA _ && true) = true; rw [hb]; rfl) hmk (List.mem_singleton_self _)
  have hnf : ∀ b, frK (hK h b) = true → b ∉ [hP h 17 p] := fun b hb z => by
    have := List.mem_singleton.mp z
    subst this
    have h1 := hmk.1
    have h2 := hmk.2
    generalize hK h (hP h 17 p) = k at *
    unfold frK at hb
    rcases (by omega : k = 8 ∨ k = 9 ∨ k = 10 ∨ k = 11 ∨ k = 12 ∨ k = 13 ∨ k = 14) with rfl | rfl | rfl | rfl | rfl | rfl | rfl <;> cases hb
  have t0 : fxA t = true ∧ fxA (t + 1) = true ∧ fxA (t + 2) = true ∧ fxA (t + 3) = true := by rcases ht with rfl | rfl <;> decide +kernel
  have tr2 := rw.tr.chg x (hne _ t0.1) (hne _ t0.2.1) (hne _ t0.2.2.1) (hne _ t0.2.2.2)
  refine ⟨w.chg x, ht, ⟨tr2.1, h6, fun q hq => ?_, ?_, ?_⟩, fun q hq => ?_, ?_⟩
  · rw [upE_o (by omega), upE_o (j := 10 * q + 3) (by omega), upE_o (j := 10 * q + 5) (by omega), yE_up (by omega), hrE_up (by omega)]
    exact tr2.2.2.1 q hq
  · rw [upE_o (by omega)]; exact tr2.2.2.2.1
  · rw [upE_o (by omega)]; exact tr2.2.2.2.2
  · obtain ⟨z1, z2, z3, z4⟩ := rw.mo q hq
    rw [kE_up (by omega), upE_o (j := 10 * q) (by omega)]
    refine ⟨⟨z1.1, z1.2.1, z1.2.2.1, ?_, ?_⟩, z2, z3, fun j hj => ?_⟩
    · show hI (sI h (hP h 17 p) 2 v) (hP h 17 q) 1 = nI q
      rw [hI_sI_ne (by omega)]; exact z1.2.2.2.1
    · show hI (sI h (hP h 17 p) 2 v) (hP h 17 q) 2 = _
      by_cases c : q = p
      · subst c
        rw [hI_sI, upE_s]
      · have hd : hP h 17 q ≠ hP h 17 p := fun y => by
          have h1 := z1.2.2.2.1
          rw [y, hm.2.2.2.1] at h1
          have := nI_inj (by omega) (by omega) h1
          omega
        rw [hI_sI_ne (fun y => hd y.1), upE_o (by omega)]
        exact z1.2.2.2.2
    · rw [x.i (hne 18 (by decide +kernel)), upE_o (by omega)]
      exact z4 j hj
  · exact rw.pa.keep (fun b _ hf => x.sm (hnf b hf))
def caF (pr : Pr) (m : Nat) (e : St) (p n : Nat) : Nat → Int32 × Int32
  | 0 => (0, -5)
  | k + 1 => if soE (rateE pr (upE e (10 * p + 1) (9 - nI k))) (upE e (10 * p + 1) (9 - nI k)) m n = true then ((caF pr m e p n k).1 + 1, 9 - nI k) else caF pr m e p n k
def caE (pr : Pr) (m : Nat) (e : St) (x what : Int32) : Int32 := if isM m x = true ∧ inB what 0 1 = true then (if what = 0 then (caF pr m e x.toNatClampNeg (e 64).toNatClampNeg 10).1 else (caF pr m e x.toNatClampNeg (e 64).toNatClampNeg 10).2) else -1
theorem caF_1 {pr : Pr} {m : Nat} {e : St} {p n k : Nat} (c : soE (rateE pr (upE e (10 * p + 1) (9 - nI k))) (upE e (10 * p + 1) (9 - nI k)) m n = true) : caF pr m e p n (k + 1) = ((caF pr m e p n k).1 + 1, 9 - nI k) := if_pos c
theorem caF_0 {pr : Pr} {m : Nat} {e : St} {p n k : Nat} (c : soE (rateE pr (upE e (10 * p + 1) (9 - nI k))) (upE e (10 * p + 1) (9 - nI k)) m n = false) : caF pr m e p n (k + 1) = caF pr m e p n k := if_neg (by rw [c]; decide)
theorem upE_id {e : St} {k : Nat} : upE e k (e k) = e := by
  funext j
  unfold upE
  by_cases c : j = k
  · rw [if_pos c, c]
  · rw [if_neg c]
/-- a thing of the heap but for one number -/
theorem Chg.back {a : Nat} {S : List Nat} {h h3 : AH} (x : Chg (a :: S) h h3) (ho : ∀ f, f ≠ 2 → hI h3 a f = hI h a f) : Chg S h (sI h3 a 2 (hI h a 2)) := by
  refine ⟨x.1, x.2.1, x.2.2.1, fun b f hb => ?_⟩
  by_cases c : b = a
  · subst c
    by_cases c2 : f = 2
    · subst c2; rw [hI_sI]
    · rw [hI_sI_ne (fun z => c2 z.2)]; exact ho f c2
  · rw [hI_sI_ne (fun z => c z.1)]
    exact x.2.2.2 b f (fun z => by rcases List.mem_cons.mp z with y | y; exact c y; exact hb y)
theorem fn_M2 {k : Nat} (z : MK k) : FN k 2 = false := z.cs (P := fun k => FN k 2 = false) rfl rfl rfl rfl rfl rfl rfl
theorem ty_M2 {k : Nat} (z : MK k) : aty k 2 = .int := z.cs (P := fun k => aty k 2 = .int) rfl rfl rfl rfl rfl rfl rfl
theorem c_can {h : AH} {m : Nat} {e : St} {pr : Pr} (rw : RW h 19 m e pr) {n : Nat} (hn : n ≤ 5) (he : e 64 = nI n) (hc : hI h 16 16 = nI n) (hs : ∀ k, k < n → hI h 33 k = e (65 + 2 * k) ∧ hI h 34 k = e (66 + 2 * k) ∧ ∃ q, q < m ∧ e (65 + 2 * k) = nI q) (x what : Int32) : Con mX0_can 33 0 0 [.ref 16, .int x, .int what] h (retG (some (.int (caE pr m e x what))) (fun h' => Chg S23 h h')) nox := by
  have w := rw.w
  have tm := rw.tm
  have h6 := rw.m6
  have hmm := rw.tr.1
  refine Con.ofH rfl rfl (Nat.le_of_ble_eq_true rfl) ?_
  refine s_aload_n 0 dX0_can_0 rfl rfl ?_
  refine s_iload_n 1 dX0_can_1 rfl rfl ?_
  refine s_callV_p (M2 := mX0_isMourner) dX0_can_2 q656 bX0_isMourner inX0_isMourner.2 qs13 rfl (c_isM rw.w hmm _) rfl rfl (rk (wk_16 w) rfl rfl) ⟨by decide, by decide, by decide⟩ (Nat.le_of_ble_eq_true rfl) ?_
  refine s_ifeq_b 17 dX0_can_5 (by decide) (fun c5 => ?_) (fun c5 => ?_)
  · skip
    refine s_iconst (v := -1) dX0_can_17 rfl ?_
    exact s_ireturn .int dX0_can_18 rfl rfl (rg (by unfold caE; rw [if_neg (fun y => by rw [c5] at y; exact absurd y.1 (by decide))]) Chg.refl)
  · skip
    refine s_iload_n 2 dX0_can_8 rfl rfl ?_
    refine s_iconst (v := 0) dX0_can_9 rfl ?_
    refine s_iconst (v := 1) dX0_can_10 rfl ?_
    refine s_callS_p (M2 := mX0_in) dX0_can_11 q373 stX0_in rfl (c_in _ _ _ _) rfl rfl ⟨by decide, by decide, by decide⟩ (Nat.le_of_ble_eq_true rfl) ?_
    refine s_ifne_b 19 dX0_can_14 (by decide) (fun c14 => ?_) (fun c14 => ?_)
    · skip
      obtain ⟨p, hlt, rfl⟩ := isM_ex h6 c5
      have hpc : (nI p).toNatClampNeg = p := nI_clamp (by omega)
      have hmr := rw.mo p hlt
      have hma := hmr.1.mk
      have ha16 : hP h 17 p ≠ 16 := fun z => by have h1 := hma.1; rw [z, wk_16 w] at h1; omega
      refine s_aload_n 0 dX0_can_19 rfl rfl ?_
      refine s_getP dX0_can_20 fl_X0_17 (fo_1_0.at (wk_16 w)) (wp_16_0 w) ?_
      refine s_iload_n 1 dX0_can_23 rfl rfl ?_
      refine s_aald (j := p) (jj := 6) dX0_can_24 (wk_17 w) rfl (ixn (wn_17 w) (ix_nI (by omega) (by decide))) (show hP _ 17 p = hP h 17 p from rfl) ?_
      refine s_getI dX0_can_25 fl_X0_171 (fo_M_2 hma) ?_
      refine s_istore_n (ls' := [(3, _), (0, _), (1, _), (2, _)]) 3 dX0_can_28 rfl (by decide) rfl ?_
      refine s_iconst (v := 0) dX0_can_29 rfl ?_
      refine s_istore (ls' := [(4, _), (3, _), (0, _), (1, _), (2, _)]) dX0_can_30 (by decide) rfl ?_
      refine s_bipush (v := -5) dX0_can_32 rfl ?_
      refine s_istore (ls' := [(5, _), (4, _), (3, _), (0, _), (1, _), (2, _)]) dX0_can_34 (by decide) rfl ?_
      refine s_aload_n 0 dX0_can_36 rfl rfl ?_
      refine s_iconst (v := 0) dX0_can_37 rfl ?_
      refine s_callV (M2 := mX0_tries) dX0_can_38 q660 bX0_tries inX0_tries.2 qs14 rfl (c_tries rw 0 (by decide)) rfl rfl (rk (wk_16 w) rfl rfl) ⟨by decide, by decide, by decide⟩ (Nat.le_of_ble_eq_true rfl) (fun v1 h1 z1 => ?_) (fun _ _ z => z.elim)
      obtain ⟨rfl, x0, rw0⟩ := z1
      change RW h1 23 m e pr at rw0
      have haS := fxS_mk w S23_fx hma
      refine s_bipush (v := 9) dX0_can_41 rfl ?_
      refine s_istore (ls' := [(6, _), (5, _), (4, _), (3, _), (0, _), (1, _), (2, _)]) dX0_can_43 (by decide) rfl ?_
      have L45 : ∀ k : Nat, k ≤ 10 → ∀ h3 : AH, Chg ((hP h 17 p) :: S23) h h3 → (∀ f, f ≠ 2 → hI h3 (hP h 17 p) f = hI h (hP h 17 p) f) → (∃ v, RW h3 23 m (upE e (10 * p + 1) v) pr) → AW mX0_can 33 (retG (some (.int (caE pr m e (nI p) what))) (fun h' => Chg S23 h h')) nox 0 0 45 [(6, .int (9 - nI k)), (4, .int (caF pr m e p n k).1), (5, .int (caF pr m e p n k).2), (3, .int (hI h (hP h 17 p) 2)), (0, .ref 16), (1, .int (nI p)), (2, .int what)] [] h3 := by
        refine for_up (fun k hpk ih => ?_)
        intro h3 x3 o3 ⟨v3, rw3⟩
        refine s_iload dX0_can_45 rfl ?_
        refine s_if_lt 92 dX0_can_47 (by decide) (fun c47 => ?_) (fun c47 => ?_)
        · skip
          have hge : k = 10 := by
            by_cases y : k ≤ 9
            · exact absurd c47 (dn_nn (c := 9) y (by decide))
            · omega
          subst hge
          refine s_iload_n 2 dX0_can_92 rfl rfl ?_
          refine s_if_ne 101 dX0_can_93 (by decide) (fun c93 => ?_) (fun c93 => ?_)
          · skip
            refine s_iload dX0_can_101 rfl ?_
            refine s_istore (ls' := [(6, _), (4, _), (5, _), (3, _), (0, _), (1, _), (2, _)]) dX0_can_103 (by decide) rfl ?_
            refine s_aload_n 0 dX0_can_105 rfl rfl ?_
            refine s_getP dX0_can_106 fl_X0_17 (fo_1_0.at (wk_16 rw3.w)) (wp_16_0 rw3.w) ?_
            refine s_iload_n 1 dX0_can_109 rfl rfl ?_
            refine s_aald (j := p) (jj := 6) dX0_can_110 (wk_17 rw3.w) rfl (ixn (wn_17 rw3.w) (ix_nI (by omega) (by decide))) (x3.p 17 p) ?_
            refine s_iload_n 3 dX0_can_111 rfl rfl ?_
            refine s_putJ dX0_can_112 fl_X0_171 (fo_M_2 (show MK (hK h3 (hP h 17 p)) from by rw [x3.k]; exact hma)) (by have := hmr.1.2.1.2; omega) (Or.inl (fn_M2 (show MK (hK h3 (hP h 17 p)) from by rw [x3.k]; exact hma))) (ty_M2 (show MK (hK h3 (hP h 17 p)) from by rw [x3.k]; exact hma)) ?_
            refine s_iload dX0_can_115 rfl ?_
            exact s_ireturn .int dX0_can_117 rfl rfl (rg (by unfold caE; rw [if_pos ⟨c5, c14⟩, hpc, he, nI_clamp (by omega)]; exact (if_neg c93).symm) (Chg.back x3 o3))
          · skip
            refine s_iload dX0_can_96 rfl ?_
            refine s_goto 103 dX0_can_98 (by decide) ?_
            refine s_istore (ls' := [(6, _), (4, _), (5, _), (3, _), (0, _), (1, _), (2, _)]) dX0_can_103 (by decide) rfl ?_
            refine s_aload_n 0 dX0_can_105 rfl rfl ?_
            refine s_getP dX0_can_106 fl_X0_17 (fo_1_0.at (wk_16 rw3.w)) (wp_16_0 rw3.w) ?_
            refine s_iload_n 1 dX0_can_109 rfl rfl ?_
            refine s_aald (j := p) (jj := 6) dX0_can_110 (wk_17 rw3.w) rfl (ixn (wn_17 rw3.w) (ix_nI (by omega) (by decide))) (x3.p 17 p) ?_
            refine s_iload_n 3 dX0_can_111 rfl rfl ?_
            refine s_putJ dX0_can_112 fl_X0_171 (fo_M_2 (show MK (hK h3 (hP h 17 p)) from by rw [x3.k]; exact hma)) (by have := hmr.1.2.1.2; omega) (Or.inl (fn_M2 (show MK (hK h3 (hP h 17 p)) from by rw [x3.k]; exact hma))) (ty_M2 (show MK (hK h3 (hP h 17 p)) from by rw [x3.k]; exact hma)) ?_
            refine s_iload dX0_can_115 rfl ?_
            exact s_ireturn .int dX0_can_117 rfl rfl (rg (by unfold caE; rw [if_pos ⟨c5, c14⟩, hpc, he, nI_clamp (by omega)]; exact (if_pos c93).symm) (Chg.back x3 o3))
        · skip
          have hlt9 : k < 10 := by
            by_cases y : k = 10
            · subst y; exact absurd (dn_ng (c := 9) (by decide)) c47
            · omega
          refine s_aload_n 0 dX0_can_50 rfl rfl ?_
          refine s_getP dX0_can_51 fl_X0_17 (fo_1_0.at (wk_16 rw3.w)) (wp_16_0 rw3.w) ?_
          refine s_iload_n 1 dX0_can_54 rfl rfl ?_
          refine s_aald (j := p) (jj := 6) dX0_can_55 (wk_17 rw3.w) rfl (ixn (wn_17 rw3.w) (ix_nI (by omega) (by decide))) (x3.p 17 p) ?_
          refine s_iload dX0_can_56 rfl ?_
          refine s_putJ dX0_can_58 fl_X0_171 (fo_M_2 (show MK (hK h3 (hP h 17 p)) from by rw [x3.k]; exact hma)) (by have := hmr.1.2.1.2; omega) (Or.inl (fn_M2 (show MK (hK h3 (hP h 17 p)) from by rw [x3.k]; exact hma))) (ty_M2 (show MK (hK h3 (hP h 17 p)) from by rw [x3.k]; exact hma)) ?_
          have rw4 : RW (sI h3 (hP h 17 p) 2 (9 - nI k)) 23 m (upE e (10 * p + 1) (9 - nI k)) pr := by
            have y := RW.v rw3 hlt (9 - nI k)
            rw [upE_2, x3.p 17 p] at y
            exact y
          have x4 := x3.s (a := (hP h 17 p)) (f := 2) (v := 9 - nI k) (by simp)
          have o4 : ∀ f, f ≠ 2 → hI (sI h3 (hP h 17 p) 2 (9 - nI k)) (hP h 17 p) f = hI h (hP h 17 p) f := fun f hf => by rw [hI_sI_ne (fun z => hf z.2)]; exact o3 f hf
          refine s_aload_n 0 dX0_can_61 rfl rfl ?_
          refine s_aload_n 0 dX0_can_62 rfl rfl ?_
          refine s_getP dX0_can_63 fl_X0_32 (fo_1_3.at (wk_16 rw4.w)) (wp_16_3 rw4.w) ?_
          refine s_callV (M2 := mX0_looksForRates) dX0_can_66 q497 bX0_looksForRates inX0_looksForRates.2 qs3 rfl (c_looks rw4) rfl rfl (rk (wk_16 rw4.w) rfl rfl) ⟨by decide, by decide, by decide⟩ (Nat.le_of_ble_eq_true rfl) (fun v2 h5 z2 => ?_) (fun _ _ z => z.elim)
          obtain ⟨rfl, x2, r1⟩ := z2
          have rw1 := rw4.at40 x2
          have x5 := x4.trans (x2.mono (S' := (hP h 17 p) :: S23) (by intro a ha; exact List.mem_cons_of_mem _ ((by decide : ∀ a ∈ [30, 40], a ∈ S23) a ha)))
          have o5 : ∀ f, f ≠ 2 → hI h5 (hP h 17 p) f = hI h (hP h 17 p) f := fun f hf => by rw [x2.i (fun z => haS ((by decide : ∀ a ∈ [30, 40], a ∈ S23) _ z))]; exact o4 f hf
          have hne16 : (16 : Nat) ∉ (hP h 17 p) :: S23 := by intro z; rcases List.mem_cons.mp z with y | y; exact ha16 y.symm; exact absurd y (by decide)
          have hne33 : (33 : Nat) ∉ (hP h 17 p) :: S23 := by intro z; rcases List.mem_cons.mp z with y | y; (exact absurd (fxS_mk w (S := [33]) (by decide +kernel) hma) (by rw [← y]; simp)); exact absurd y (by decide)
          have hne34 : (34 : Nat) ∉ (hP h 17 p) :: S23 := by intro z; rcases List.mem_cons.mp z with y | y; (exact absurd (fxS_mk w (S := [34]) (by decide +kernel) hma) (by rw [← y]; simp)); exact absurd y (by decide)
          have hc1 := (x5.i hne16 16).trans hc
          have hs1 : ∀ j, j < n → hI h5 33 j = (upE e (10 * p + 1) (9 - nI k)) (65 + 2 * j) ∧ hI h5 34 j = (upE e (10 * p + 1) (9 - nI k)) (66 + 2 * j) ∧ ∃ q, q < m ∧ (upE e (10 * p + 1) (9 - nI k)) (65 + 2 * j) = nI q := fun j hj => by
            rw [x5.i hne33, x5.i hne34, upE_o (by omega), upE_o (j := 66 + 2 * j) (by omega)]
            exact hs j hj
          refine s_aload_n 0 dX0_can_69 rfl rfl ?_
          refine s_callV_p (M2 := mX0_areSo) dX0_can_70 q1056 bX0_areSo inX0_areSo.2 qs35 rfl (c_areSo rw1 r1 hn hc1 hs1) rfl rfl (rk (wk_16 rw1.w) rfl rfl) ⟨by decide, by decide, by decide⟩ (Nat.le_of_ble_eq_true rfl) ?_
          refine s_ifne_b 79 dX0_can_73 (by decide) (fun c73 => ?_) (fun c73 => ?_)
          · skip
            refine s_iinc (v := _ + (1)) (ls' := [(4, _), (6, _), (5, _), (3, _), (0, _), (1, _), (2, _)]) dX0_can_79 rfl rfl (by decide) rfl ?_
            refine s_iload dX0_can_82 rfl ?_
            refine s_istore (ls' := [(5, _), (4, _), (6, _), (3, _), (0, _), (1, _), (2, _)]) dX0_can_84 (by decide) rfl ?_
            refine s_iinc (v := _ + (-1)) (ls' := [(6, _), (5, _), (4, _), (3, _), (0, _), (1, _), (2, _)]) dX0_can_86 rfl rfl (by decide) rfl ?_
            refine s_goto 45 dX0_can_89 (by decide) ?_
            exact AW.lc (ih hlt9 _ x5 o5 ⟨_, rw1⟩) ⟨(congrArg (fun x => some (Value.int x)) (dn_1 9 k)), (congrArg (fun x : Int32 × Int32 => some (Value.int x.1)) (caF_1 c73).symm), (congrArg (fun x : Int32 × Int32 => some (Value.int x.2)) (caF_1 c73).symm), rfl, rfl, rfl, rfl, trivial⟩
          · skip
            refine s_goto 86 dX0_can_76 (by decide) ?_
            refine s_iinc (v := _ + (-1)) (ls' := [(6, _), (4, _), (5, _), (3, _), (0, _), (1, _), (2, _)]) dX0_can_86 rfl rfl (by decide) rfl ?_
            refine s_goto 45 dX0_can_89 (by decide) ?_
            exact AW.lc (ih hlt9 _ x5 o5 ⟨_, rw1⟩) ⟨(congrArg (fun x => some (Value.int x)) (dn_1 9 k)), (congrArg (fun x : Int32 × Int32 => some (Value.int x.1)) (caF_0 c73).symm), (congrArg (fun x : Int32 × Int32 => some (Value.int x.2)) (caF_0 c73).symm), rfl, rfl, rfl, rfl, trivial⟩
      exact AW.lc (L45 0 (Nat.zero_le _) _ (x0.mono (fun a ha => List.mem_cons_of_mem _ ha)) (fun f _ => x0.i haS f) ⟨e (10 * p + 1), by rw [upE_id]; exact rw0⟩) ⟨(congrArg (fun x => some (Value.int x)) (show (9 : Int32) = 9 - nI 0 from rfl)), rfl, rfl, rfl, rfl, rfl, rfl, trivial⟩
    · skip
      refine s_iconst (v := -1) dX0_can_17 rfl ?_
      exact s_ireturn .int dX0_can_18 rfl rfl (rg (by unfold caE; rw [if_neg (fun y => by rw [c14] at y; exact absurd y.2 (by decide))]) Chg.refl)
