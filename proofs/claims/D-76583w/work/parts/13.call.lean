/-! AW: calls, throws, catching -/
set_option maxRecDepth 100000
abbrev hyy (y : MethodName) : Prop := y.cls ≠ "java/lang/invoke/MethodHandle" ∧ y.cls ≠ "java/lang/invoke/VarHandle"
abbrev parN (y : MethodName) : Option Nat := (parseMethodDescriptor y.desc).map (fun d => d.parameters.length)
/-- what every callee shows -/
def CB (M : AMt) (n : Nat) : Prop := Cond.initialized (mY M).cls ∈ lw_all ∧ acw M ∈ lw_all ∧ hyy (mY M) ∧ parN (mY M) = some n ∧ mL M ≤ 17
/-- a static method; an object's own method for receivers of class C; a constructor or a super's method -/
def CS (M : AMt) (n : Nat) : Prop := CB M n ∧ Cond.static (mY M) ∈ lw_all
def CI (M : AMt) (n : Nat) : Prop := CB M n ∧ Cond.instanceMethod (mY M) ∈ lw_all
def CV (M : AMt) (n : Nat) (C : String) : Prop := CI M n ∧ Cond.selects C (mY M) (mY M) ∈ lw_all
theorem CB.len {M : AMt} {n : Nat} (h : CB M n) : ∀ sig, parseMethodDescriptor (mY M).desc = some sig → n = sig.parameters.length := by
  intro sig hs
  have h2 := h.2.2.2.1
  unfold parN at h2
  rw [hs] at h2
  exact (Option.some.inj h2).symm
theorem acw_code {M : AMt} (h : mH M = []) : acw M = Cond.code (mY M) (mC M) (mL M) (mR M) := by unfold acw; rw [h]
theorem acw_with {M : AMt} (h : mH M ≠ []) : acw M = Cond.codeWith (mY M) (mC M) (mL M) (mR M) (mH M) := by
  unfold acw
  cases e : mH M with
  | nil => exact absurd e h
  | cons x xs => rfl
theorem tv_lst (g : AG) (st : List Value) : ((st.map (tv g)).map fun v => v.category) = (st.map fun v => v.category) := by rw [List.map_map]; exact List.map_congr_left (fun v _ => tv_cat g v)
section RC
variable {M M2 : AMt} {d d2 mc2 ms2 n : Nat} {post post2 : Option Value → AH → Prop} {px px2 : Nat → AH → Prop} {rc rs pc : Nat} {ls : List (Nat × Value)} {st stk as : List Value} {h : AH}
variable {g : AG} {p : Program} {l : Launch} {e : Env} {R : Room} {s : State} {m : MethodId} {args : Array Value} {below : List Frame} {meth : Method} {c : Code} {mc ms : Nat}
theorem aw_back (F : AF M d g p l R s m args meth c mc ms) (hC : Con M2 d2 mc2 ms2 as h post2 px2) (hB : CB M2 n) (hroom : d2 + 1 ≤ d ∧ mc2 ≤ rc ∧ ms2 ≤ rs) :
    vx_Back l R p e below s args (mY M2) 3 12 (PreOf R mc2 ms2 (APc g as h)) (PostOf (AQ g post2) mc2 ms2 (afree g)) (vx_Post (AX g px2) mc2 ms2 (afree g)) := by
  have hts := F.2.2.2.2.2.2.1
  have hRm : R = arm d mc ms := F.2.2.2.2.2.2.2.2.2.2.1
  have hG : GoodIn lw_all (aws M2) := by
    intro w hw
    rcases List.mem_cons.mp hw with z | z
    · rw [z]; exact lw_self _ hB.2.1
    · exact lw_self _ z
  have hini : ∀ a' U, s.WarmedH U.vm → (Cond.initialized (mY M2).cls).before a' U = true := fun a' U hW => word_at hW (Or.inl (by first | rfl | simp [Cond.onTables, Cond.keeps, Cond.steady])) (hts _ hB.1)
  have hf : (arm d2 mc2 ms2).frames + 1 ≤ R.frames := by rw [hRm]; exact hroom.1
  have hlo : 12 + (mL M2 + 11) + (arm d2 mc2 ms2).locals ≤ R.locals := by
    rw [hRm]
    have := hB.2.2.2.2
    show 12 + (mL M2 + 11) + 40 * d2 ≤ 40 * d
    omega
  by_cases hH : mH M2 = []
  · exact vx_back (bytes := mC M2) (maxL := mL M2) (ret := mR M2) (hC g l F.2.1) APc.blind rfl rfl hf hlo (pay_in hts hG) (by rw [← acw_code hH]; exact List.mem_cons_self) hini
  · exact vx_backW (hh := mH M2) (bytes := mC M2) (maxL := mL M2) (ret := mR M2) (hC g l F.2.1) APc.blind rfl rfl hf hlo (pay_in hts hG) (by rw [← acw_with hH]; exact List.mem_cons_self) hini
theorem aw_fin {locs : List Loc} {cells slots : Nat} {lsA : Array Slot} {T : State} {stkM : List Value} {Av : Array Value} (F : AF M d g p l R s m args meth c mc ms) (hL : ∀ z ∈ locs, gB g ≤ z.base) (hl : lv_has lsA (mL M) (tl g ls)) (hc : cells + rc ≤ mc) (hs : slots + rs ≤ ms) (hroom : d2 + 1 ≤ d ∧ mc2 ≤ rc ∧ ms2 ≤ rs)
    (k : ∀ v h1, post2 v h1 → AW M d post px (rc - mc2) (rs - ms2) (pc + 3) ls (v.toList ++ st) h1) (kx : ∀ a h1, px2 a h1 → AWX M d post px (rc - mc2) (rs - ms2) pc ls a h1)
    (ans : (∃ (v : Option Value) (vm₁ : Vm) (B : Pt), s.WarmedH vm₁ ∧ Stand p l e R s m args below meth c B.U B.locs B.cells B.slots ∧ PostOf (AQ g post2) mc2 ms2 (afree g) ⟨T.setVm vm₁, locs, cells, slots⟩ Av v B ∧
      ∀ target, Steps p.tables e below (B.U.setTop { F0 m pc lsA stkM with pc := pc + 3, stack := v.toList ++ st.map (tv g) }) target → Steps p.tables e below (T.setTop (F0 m pc lsA stkM)) target) ∨
    (∃ (q : Addr) (vm₁ : Vm) (B : Pt), s.WarmedH vm₁ ∧ Stand p l e R s m args below meth c B.U B.locs B.cells B.slots ∧ vx_Post (AX g px2) mc2 ms2 (afree g) ⟨T.setVm vm₁, locs, cells, slots⟩ Av q B ∧
      Steps p.tables e below (T.setTop (F0 m pc lsA stkM)) ((B.U.setTop { F0 m pc lsA stkM with stack := st.map (tv g) }).pushFrame (.throwing q)))) :
    ∃ t, Steps p.tables e below (T.setTop (F0 m pc lsA stkM)) t ∧ vx_MQ below (AQ g post) (AX g px) args s mc ms (afree g) t := by
  have hloc : ∀ (L : List Loc), (∀ q ∈ L, afree g q.base) → ∀ z ∈ locs ++ L, gB g ≤ z.base := fun L hq z hz => (List.mem_append.mp hz).elim (hL z) (hq z)
  rcases ans with ⟨v, vm₁, ⟨U', l2, c2, s2⟩, hW₁, X', ⟨g', mk, t, L, e1, e2, ⟨v0, h', f1, f2, f3⟩, h1, hq, h2, h3⟩, st9⟩ | ⟨q, vm₁, ⟨U', l2, c2, s2⟩, hW₁, X', ⟨g', mk, t, L, E, ce, e1, e2, ⟨a, h', f1, f2, f3, f4, f5, f6, f7⟩, hce, hcv, hcl, h1, hq, h2, h3⟩, st9⟩
  · dsimp only [Pt.U, Pt.locs, Pt.cells, Pt.slots] at X' e1 e2 h1 h2 h3 st9
    subst h1; subst h2; subst h3
    cases f1
    rw [← e1] at f3
    have K := k v0 h' f2 g p l e R s m args below meth c mc ms F U'.heap (locs ++ L) (cells + mc2) (slots + ms2) lsA f3 (hloc L hq) hl (by omega) (by omega)
    obtain ⟨t2, a1, b1⟩ := K U' rfl X'
    refine ⟨t2, st9 t2 ?_, b1⟩
    have e9 : (v0.toList ++ st).map (tv g) = (v0.map (tv g)).toList ++ st.map (tv g) := by cases v0 <;> simp
    rw [e9] at a1
    exact a1
  · dsimp only [Pt.U, Pt.locs, Pt.cells, Pt.slots] at X' e1 e2 h1 h2 h3 st9 hcl
    subst h1; subst h2; subst h3
    subst f1
    rw [← e1] at f4
    have K := kx a h' f3 g p l e R s m args below meth c mc ms F U'.heap (locs ++ L) (cells + mc2) (slots + ms2) lsA (st.map (tv g)) f4 (hloc L hq) hl (by omega) (by omega) f2 f5 f6
    obtain ⟨t2, a1, b1⟩ := K U' rfl X'
    exact ⟨t2, st9.trans a1, b1⟩
theorem aw_pre {T : State} {vm₁ : Vm} {H : Heap} {locs : List Loc} {cells slots : Nat} (F : AF M d g p l R s m args meth c mc ms) (hT : T.heap = H) (hR : AR g h H) (hW : s.WarmedH vm₁) (hc : cells + rc ≤ mc) (hs : slots + rs ≤ ms) (hroom : d2 + 1 ≤ d ∧ mc2 ≤ rc ∧ ms2 ≤ rs) :
    PreOf R mc2 ms2 (APc g as h) ⟨T.setVm vm₁, locs, cells, slots⟩ (as.map (tv g)).toArray := by
  have hRm : R = arm d mc ms := F.2.2.2.2.2.2.2.2.2.2.1
  have hA : AK g s := F.2.2.2.2.2.2.2.2.2.2.2
  refine ⟨?_, ?_, rfl, hA.warm hW rfl, by show AR g h T.heap; rw [hT]; exact hR⟩
  · rw [hRm]; show cells + mc2 ≤ mc; omega
  · rw [hRm]; show slots + ms2 ≤ ms; omega
end RC
section RC2
variable {M M2 : AMt} {d d2 mc2 ms2 n : Nat} {post post2 : Option Value → AH → Prop} {px px2 : Nat → AH → Prop} {rc rs pc idx : Nat} {ls : List (Nat × Value)} {st stk as : List Value} {h : AH}
theorem s_callS (hd : decode (mC M) pc = .ok (.invokestatic idx, 3)) (q1 : Cond.methodLink (mY M).cls idx (mY M2) ∈ lw_all) (hM : CS M2 n) (hH : mH M2 = []) (hC : Con M2 d2 mc2 ms2 as h post2 px2) (hn : as.length = n) (hstk : stk = as.reverse ++ st) (hroom : d2 + 1 ≤ d ∧ mc2 ≤ rc ∧ ms2 ≤ rs) (hst : (st.map fun v => v.category).sum ≤ 12)
    (k : ∀ v h1, post2 v h1 → AW M d post px (rc - mc2) (rs - ms2) (pc + 3) ls (v.toList ++ st) h1) (kx : ∀ a h1, px2 a h1 → AWX M d post px (rc - mc2) (rs - ms2) pc ls a h1) : AW M d post px rc rs pc ls stk h := by
  intro g p l e R s m args below meth c mc ms F H locs cells slots lsA hR hL hl hc hs T hT X
  have hown := F.2.2.2.2.2.1
  have hts := F.2.2.2.2.2.2.1
  have hA : AK g s := F.2.2.2.2.2.2.2.2.2.2.2
  subst hstk
  have hcode : (Cond.code (mY M2) (mC M2) (mL M2) (mR M2)).before args s = true := by rw [← acw_code hH]; exact hts _ hM.1.2.1
  refine aw_fin (T := T) (stkM := (as.reverse ++ st).map (tv g)) (Av := (as.map (tv g)).toArray) F hL hl hc hs hroom k kx ?_
  exact vx_callS X F.1 (bytes := mC M2) (maxL := mL M2) (ret := mR M2) hown (hts _ q1) (hts _ hM.2) (hts _ hM.1.1) hcode hM.1.2.2.1 (aw_back F hC hM.1 hroom) (g := F0 m pc lsA ((as.reverse ++ st).map (tv g))) rfl (hl.1.trans F.2.2.2.1.symm) (argsL := as.map (tv g)) (rest := st.map (tv g)) (fun sig hs => (List.length_map _).trans (hn.trans (hM.1.len sig hs))) (by rw [List.map_append, List.map_reverse]) (by rw [tv_lst]; show 2 * 0 + _ ≤ 12; omega) (by rw [F.2.2.1]; exact hd) (fun vm₁ hW => aw_pre F hT hR hW hc hs hroom)
theorem s_callSN (hd : decode (mC M) pc = .ok (.invokestatic idx, 3)) {host : String} (q1 : Cond.methodLinkNest (mY M).cls idx (mY M2) host ∈ lw_tbl) (hM : CS M2 n) (hH : mH M2 = []) (hC : Con M2 d2 mc2 ms2 as h post2 px2) (hn : as.length = n) (hstk : stk = as.reverse ++ st) (hroom : d2 + 1 ≤ d ∧ mc2 ≤ rc ∧ ms2 ≤ rs) (hst : (st.map fun v => v.category).sum ≤ 12)
    (k : ∀ v h1, post2 v h1 → AW M d post px (rc - mc2) (rs - ms2) (pc + 3) ls (v.toList ++ st) h1) (kx : ∀ a h1, px2 a h1 → AWX M d post px (rc - mc2) (rs - ms2) pc ls a h1) : AW M d post px rc rs pc ls stk h := by
  intro g p l e R s m args below meth c mc ms F H locs cells slots lsA hR hL hl hc hs T hT X
  have hown := F.2.2.2.2.2.1
  have hts := F.2.2.2.2.2.2.1
  have hA : AK g s := F.2.2.2.2.2.2.2.2.2.2.2
  subst hstk
  have hcode : (Cond.code (mY M2) (mC M2) (mL M2) (mR M2)).before args s = true := by rw [← acw_code hH]; exact hts _ hM.1.2.1
  refine aw_fin (T := T) (stkM := (as.reverse ++ st).map (tv g)) (Av := (as.map (tv g)).toArray) F hL hl hc hs hroom k kx ?_
  exact vx_callSN X F.1 (bytes := mC M2) (maxL := mL M2) (ret := mR M2) hown (hA.nestM q1) (hts _ hM.2) (hts _ hM.1.1) hcode hM.1.2.2.1 (aw_back F hC hM.1 hroom) (g := F0 m pc lsA ((as.reverse ++ st).map (tv g))) rfl (hl.1.trans F.2.2.2.1.symm) (argsL := as.map (tv g)) (rest := st.map (tv g)) (fun sig hs => (List.length_map _).trans (hn.trans (hM.1.len sig hs))) (by rw [List.map_append, List.map_reverse]) (by rw [tv_lst]; show 2 * 0 + _ ≤ 12; omega) (by rw [F.2.2.1]; exact hd) (fun vm₁ hW => aw_pre F hT hR hW hc hs hroom)
theorem s_callV {a : Nat} {C : String} (hd : decode (mC M) pc = .ok (.invokevirtual idx, 3)) (q1 : Cond.methodLink (mY M).cls idx (mY M2) ∈ lw_all) (hB : CB M2 n) (hI : Cond.instanceMethod (mY M2) ∈ lw_all) (hS : Cond.selects C (mY M2) (mY M2) ∈ lw_all) (hH : mH M2 = []) (hC : Con M2 d2 mc2 ms2 (.ref a :: as) h post2 px2) (hn : as.length = n) (hstk : stk = as.reverse ++ .ref a :: st) (hr : okK (hK h a) = true ∧ kname (hK h a) = C) (hroom : d2 + 1 ≤ d ∧ mc2 ≤ rc ∧ ms2 ≤ rs) (hst : (st.map fun v => v.category).sum ≤ 12)
    (k : ∀ v h1, post2 v h1 → AW M d post px (rc - mc2) (rs - ms2) (pc + 3) ls (v.toList ++ st) h1) (kx : ∀ a h1, px2 a h1 → AWX M d post px (rc - mc2) (rs - ms2) pc ls a h1) : AW M d post px rc rs pc ls stk h := by
  intro g p l e R s m args below meth c mc ms F H locs cells slots lsA hR hL hl hc hs T hT X
  have hown := F.2.2.2.2.2.1
  have hts := F.2.2.2.2.2.2.1
  have hA : AK g s := F.2.2.2.2.2.2.2.2.2.2.2
  subst hstk
  have h0 : a ≠ 0 := by
    have : hK h a ≠ 0 := fun z => by rw [z] at hr; cases hr.1
    have := (hR.2.2.1 a this).1
    omega
  have hcode : (Cond.code (mY M2) (mC M2) (mL M2) (mR M2)).before args s = true := by rw [← acw_code hH]; exact hts _ hB.2.1
  obtain ⟨cell, c1, c2, c3⟩ := recvK hA hR hr.1
  rw [hr.2] at c3
  have es : (as.reverse ++ .ref a :: st).map (tv g) = (as.map (tv g)).reverse ++ .ref (ad g a) :: st.map (tv g) := by rw [List.map_append, List.map_reverse, List.map_cons, tv_p g h0]
  have ea : (((.ref a :: as).map (tv g)).toArray : Array Value) = (Value.ref (ad g a) :: as.map (tv g)).toArray := by rw [List.map_cons, tv_p g h0]
  refine aw_fin (T := T) (stkM := (as.reverse ++ .ref a :: st).map (tv g)) (Av := (Value.ref (ad g a) :: as.map (tv g)).toArray) F hL hl hc hs hroom k kx ?_
  exact vx_callV X F.1 (C := C) (bytes := mC M2) (maxL := mL M2) (ret := mR M2) hown (hts _ q1) (hts _ hI) (hts _ hS) hcode hB.2.2.1 (aw_back F hC hB hroom) (b := ad g a) (by rw [hT]; exact c1) c2 c3 (g := F0 m pc lsA ((as.reverse ++ .ref a :: st).map (tv g))) rfl (hl.1.trans F.2.2.2.1.symm) (argsL := as.map (tv g)) (rest := st.map (tv g)) (fun sig hs => (List.length_map _).trans (hn.trans (hB.len sig hs))) es (by rw [tv_lst]; show 2 * 0 + _ ≤ 12; omega) (by rw [F.2.2.1]; exact hd) (fun vm₁ hW => by rw [← ea]; exact aw_pre F hT hR hW hc hs hroom)
theorem s_callVX {a : Nat} {C : String} (hd : decode (mC M) pc = .ok (.invokevirtual idx, 3)) (q1 : Cond.methodLink (mY M).cls idx (mY M2) ∈ lw_all) (hB : CB M2 n) (hI : Cond.instanceMethod (mY M2) ∈ lw_all) (hS : Cond.selects C (mY M2) (mY M2) ∈ lw_all) (hH : mH M2 ≠ []) (hC : Con M2 d2 mc2 ms2 (.ref a :: as) h post2 px2) (hn : as.length = n) (hstk : stk = as.reverse ++ .ref a :: st) (hr : okK (hK h a) = true ∧ kname (hK h a) = C) (hroom : d2 + 1 ≤ d ∧ mc2 ≤ rc ∧ ms2 ≤ rs) (hst : (st.map fun v => v.category).sum ≤ 12)
    (k : ∀ v h1, post2 v h1 → AW M d post px (rc - mc2) (rs - ms2) (pc + 3) ls (v.toList ++ st) h1) (kx : ∀ a h1, px2 a h1 → AWX M d post px (rc - mc2) (rs - ms2) pc ls a h1) : AW M d post px rc rs pc ls stk h := by
  intro g p l e R s m args below meth c mc ms F H locs cells slots lsA hR hL hl hc hs T hT X
  have hown := F.2.2.2.2.2.1
  have hts := F.2.2.2.2.2.2.1
  have hA : AK g s := F.2.2.2.2.2.2.2.2.2.2.2
  subst hstk
  have h0 : a ≠ 0 := by
    have : hK h a ≠ 0 := fun z => by rw [z] at hr; cases hr.1
    have := (hR.2.2.1 a this).1
    omega
  have hcode : (Cond.codeWith (mY M2) (mC M2) (mL M2) (mR M2) (mH M2)).before args s = true := by rw [← acw_with hH]; exact hts _ hB.2.1
  obtain ⟨cell, c1, c2, c3⟩ := recvK hA hR hr.1
  rw [hr.2] at c3
  have es : (as.reverse ++ .ref a :: st).map (tv g) = (as.map (tv g)).reverse ++ .ref (ad g a) :: st.map (tv g) := by rw [List.map_append, List.map_reverse, List.map_cons, tv_p g h0]
  have ea : (((.ref a :: as).map (tv g)).toArray : Array Value) = (Value.ref (ad g a) :: as.map (tv g)).toArray := by rw [List.map_cons, tv_p g h0]
  refine aw_fin (T := T) (stkM := (as.reverse ++ .ref a :: st).map (tv g)) (Av := (Value.ref (ad g a) :: as.map (tv g)).toArray) F hL hl hc hs hroom k kx ?_
  exact vx_callVX X F.1 (C := C) (bytes := mC M2) (maxL := mL M2) (ret := mR M2) hown (hts _ q1) (hts _ hI) (hts _ hS) hcode hB.2.2.1 (aw_back F hC hB hroom) (b := ad g a) (by rw [hT]; exact c1) c2 c3 (g := F0 m pc lsA ((as.reverse ++ .ref a :: st).map (tv g))) rfl (hl.1.trans F.2.2.2.1.symm) (argsL := as.map (tv g)) (rest := st.map (tv g)) (fun sig hs => (List.length_map _).trans (hn.trans (hB.len sig hs))) es (by rw [tv_lst]; show 2 * 0 + _ ≤ 12; omega) (by rw [F.2.2.1]; exact hd) (fun vm₁ hW => by rw [← ea]; exact aw_pre F hT hR hW hc hs hroom)
theorem s_callVN {a : Nat} {C : String} (hd : decode (mC M) pc = .ok (.invokevirtual idx, 3)) {host : String} (q1 : Cond.methodLinkNest (mY M).cls idx (mY M2) host ∈ lw_tbl) (hB : CB M2 n) (hI : Cond.instanceMethod (mY M2) ∈ lw_all) (hS : Cond.selects C (mY M2) (mY M2) ∈ lw_all) (hH : mH M2 = []) (hC : Con M2 d2 mc2 ms2 (.ref a :: as) h post2 px2) (hn : as.length = n) (hstk : stk = as.reverse ++ .ref a :: st) (hr : okK (hK h a) = true ∧ kname (hK h a) = C) (hroom : d2 + 1 ≤ d ∧ mc2 ≤ rc ∧ ms2 ≤ rs) (hst : (st.map fun v => v.category).sum ≤ 12)
    (k : ∀ v h1, post2 v h1 → AW M d post px (rc - mc2) (rs - ms2) (pc + 3) ls (v.toList ++ st) h1) (kx : ∀ a h1, px2 a h1 → AWX M d post px (rc - mc2) (rs - ms2) pc ls a h1) : AW M d post px rc rs pc ls stk h := by
  intro g p l e R s m args below meth c mc ms F H locs cells slots lsA hR hL hl hc hs T hT X
  have hown := F.2.2.2.2.2.1
  have hts := F.2.2.2.2.2.2.1
  have hA : AK g s := F.2.2.2.2.2.2.2.2.2.2.2
  subst hstk
  have h0 : a ≠ 0 := by
    have : hK h a ≠ 0 := fun z => by rw [z] at hr; cases hr.1
    have := (hR.2.2.1 a this).1
    omega
  have hcode : (Cond.code (mY M2) (mC M2) (mL M2) (mR M2)).before args s = true := by rw [← acw_code hH]; exact hts _ hB.2.1
  obtain ⟨cell, c1, c2, c3⟩ := recvK hA hR hr.1
  rw [hr.2] at c3
  have es : (as.reverse ++ .ref a :: st).map (tv g) = (as.map (tv g)).reverse ++ .ref (ad g a) :: st.map (tv g) := by rw [List.map_append, List.map_reverse, List.map_cons, tv_p g h0]
  have ea : (((.ref a :: as).map (tv g)).toArray : Array Value) = (Value.ref (ad g a) :: as.map (tv g)).toArray := by rw [List.map_cons, tv_p g h0]
  refine aw_fin (T := T) (stkM := (as.reverse ++ .ref a :: st).map (tv g)) (Av := (Value.ref (ad g a) :: as.map (tv g)).toArray) F hL hl hc hs hroom k kx ?_
  exact vx_callVN X F.1 (C := C) (bytes := mC M2) (maxL := mL M2) (ret := mR M2) hown (hA.nestM q1) (hts _ hI) (hts _ hS) hcode hB.2.2.1 (aw_back F hC hB hroom) (b := ad g a) (by rw [hT]; exact c1) c2 c3 (g := F0 m pc lsA ((as.reverse ++ .ref a :: st).map (tv g))) rfl (hl.1.trans F.2.2.2.1.symm) (argsL := as.map (tv g)) (rest := st.map (tv g)) (fun sig hs => (List.length_map _).trans (hn.trans (hB.len sig hs))) es (by rw [tv_lst]; show 2 * 0 + _ ≤ 12; omega) (by rw [F.2.2.1]; exact hd) (fun vm₁ hW => by rw [← ea]; exact aw_pre F hT hR hW hc hs hroom)
theorem s_callVU {a : Nat} {C : String} (hd : decode (mC M) pc = .ok (.invokevirtual idx, 3)) {x : MethodName} (owner : String) (q1 : Cond.methodLink (mY M).cls idx x ∈ lw_all) (q2 : Cond.sameMethod x.cls owner x.name x.desc ∈ lw_all) (q3 : Cond.declares ⟨owner, x.name, x.desc⟩ ∈ lw_tbl ∨ ∃ M3, mH M3 = [] ∧ acw M3 ∈ lw_all ∧ mY M3 = ⟨owner, x.name, x.desc⟩ ∧ Cond.instanceMethod (mY M3) ∈ lw_all) (how : owner ≠ "java/lang/invoke/MethodHandle" ∧ owner ≠ "java/lang/invoke/VarHandle") (hpn : parN x = some n) (hB : CB M2 n) (hI : Cond.instanceMethod (mY M2) ∈ lw_all) (hS : Cond.selects C x (mY M2) ∈ lw_all) (hH : mH M2 = []) (hC : Con M2 d2 mc2 ms2 (.ref a :: as) h post2 px2) (hn : as.length = n) (hstk : stk = as.reverse ++ .ref a :: st) (hr : okK (hK h a) = true ∧ kname (hK h a) = C) (hroom : d2 + 1 ≤ d ∧ mc2 ≤ rc ∧ ms2 ≤ rs) (hst : (st.map fun v => v.category).sum ≤ 12)
    (k : ∀ v h1, post2 v h1 → AW M d post px (rc - mc2) (rs - ms2) (pc + 3) ls (v.toList ++ st) h1) (kx : ∀ a h1, px2 a h1 → AWX M d post px (rc - mc2) (rs - ms2) pc ls a h1) : AW M d post px rc rs pc ls stk h := by
  intro g p l e R s m args below meth c mc ms F H locs cells slots lsA hR hL hl hc hs T hT X
  have hown := F.2.2.2.2.2.1
  have hts := F.2.2.2.2.2.2.1
  have hA : AK g s := F.2.2.2.2.2.2.2.2.2.2.2
  subst hstk
  have h0 : a ≠ 0 := by
    have : hK h a ≠ 0 := fun z => by rw [z] at hr; cases hr.1
    have := (hR.2.2.1 a this).1
    omega
  have hcode : (Cond.code (mY M2) (mC M2) (mL M2) (mR M2)).before args s = true := by rw [← acw_code hH]; exact hts _ hB.2.1
  obtain ⟨cell, c1, c2, c3⟩ := recvK hA hR hr.1
  rw [hr.2] at c3
  have es : (as.reverse ++ .ref a :: st).map (tv g) = (as.map (tv g)).reverse ++ .ref (ad g a) :: st.map (tv g) := by rw [List.map_append, List.map_reverse, List.map_cons, tv_p g h0]
  have ea : (((.ref a :: as).map (tv g)).toArray : Array Value) = (Value.ref (ad g a) :: as.map (tv g)).toArray := by rw [List.map_cons, tv_p g h0]
  have hdec : va_Decl s ⟨owner, x.name, x.desc⟩ := by
    rcases q3 with z | ⟨M3, z1, z2, z3, z4⟩
    · exact va_Decl.abs (hA.decl z)
    · rw [← z3]
      exact va_Decl.of (hts _ z4) (by have := hts _ z2; rw [acw_code z1] at this; exact this)
  have hlen : ∀ sig, parseMethodDescriptor x.desc = some sig → n = sig.parameters.length := by
    intro sig hs
    unfold parN at hpn
    rw [hs] at hpn
    exact (Option.some.inj hpn).symm
  refine aw_fin (T := T) (stkM := (as.reverse ++ .ref a :: st).map (tv g)) (Av := (Value.ref (ad g a) :: as.map (tv g)).toArray) F hL hl hc hs hroom k kx ?_
  exact vx_callVU X F.1 (C := C) (bytes := mC M2) (maxL := mL M2) (ret := mR M2) hown (hts _ q1) (hts _ q2) hdec how (hts _ hS) (hts _ hI) hcode (aw_back F hC hB hroom) (b := ad g a) (by rw [hT]; exact c1) c2 c3 (g := F0 m pc lsA ((as.reverse ++ .ref a :: st).map (tv g))) rfl (hl.1.trans F.2.2.2.1.symm) (argsL := as.map (tv g)) (rest := st.map (tv g)) (fun sig hs => (List.length_map _).trans (hn.trans (hlen sig hs))) es (by rw [tv_lst]; show 2 * 0 + _ ≤ 12; omega) (by rw [F.2.2.1]; exact hd) (fun vm₁ hW => by rw [← ea]; exact aw_pre F hT hR hW hc hs hroom)
theorem s_callI {a : Nat} (hd : decode (mC M) pc = .ok (.invokespecial idx, 3)) (q1 : Cond.methodLink (mY M).cls idx (mY M2) ∈ lw_all) (hM : CI M2 n) (hH : mH M2 = [] ∧ (mY M2).name = "<init>" ∧ mR M2 = none) (hC : Con M2 d2 mc2 ms2 (.ref a :: as) h post2 px2) (hn : as.length = n) (hstk : stk = as.reverse ++ .ref a :: st) (h0 : a ≠ 0) (hroom : d2 + 1 ≤ d ∧ mc2 ≤ rc ∧ ms2 ≤ rs) (hst : (st.map fun v => v.category).sum ≤ 12)
    (k : ∀ v h1, post2 v h1 → AW M d post px (rc - mc2) (rs - ms2) (pc + 3) ls (v.toList ++ st) h1) (kx : ∀ a h1, px2 a h1 → AWX M d post px (rc - mc2) (rs - ms2) pc ls a h1) : AW M d post px rc rs pc ls stk h := by
  intro g p l e R s m args below meth c mc ms F H locs cells slots lsA hR hL hl hc hs T hT X
  have hown := F.2.2.2.2.2.1
  have hts := F.2.2.2.2.2.2.1
  have hA : AK g s := F.2.2.2.2.2.2.2.2.2.2.2
  subst hstk
  have hcode : (Cond.code (mY M2) (mC M2) (mL M2) none).before args s = true := by rw [← hH.2.2, ← acw_code hH.1]; exact hts _ hM.1.2.1
  have es : (as.reverse ++ .ref a :: st).map (tv g) = (as.map (tv g)).reverse ++ .ref (ad g a) :: st.map (tv g) := by rw [List.map_append, List.map_reverse, List.map_cons, tv_p g h0]
  have ea : (((.ref a :: as).map (tv g)).toArray : Array Value) = (Value.ref (ad g a) :: as.map (tv g)).toArray := by rw [List.map_cons, tv_p g h0]
  refine aw_fin (T := T) (stkM := (as.reverse ++ .ref a :: st).map (tv g)) (Av := (Value.ref (ad g a) :: as.map (tv g)).toArray) F hL hl hc hs hroom k kx ?_
  exact vx_callI X F.1 (bytes := mC M2) (maxL := mL M2) hown hH.2.1 (hts _ q1) (hts _ hM.2) hcode hM.1.2.2.1 (aw_back F hC hM.1 hroom) (a := ad g a) (g := F0 m pc lsA ((as.reverse ++ .ref a :: st).map (tv g))) rfl (hl.1.trans F.2.2.2.1.symm) (argsL := as.map (tv g)) (rest := st.map (tv g)) (fun sig hs => (List.length_map _).trans (hn.trans (hM.1.len sig hs))) es (by rw [tv_lst]; show 2 * 0 + _ ≤ 12; omega) (by rw [F.2.2.1]; exact hd) (fun vm₁ hW => by rw [← ea]; exact aw_pre F hT hR hW hc hs hroom)
theorem s_callIN {a : Nat} (hd : decode (mC M) pc = .ok (.invokespecial idx, 3)) {host : String} (q1 : Cond.methodLinkNest (mY M).cls idx (mY M2) host ∈ lw_tbl) (hM : CI M2 n) (hH : mH M2 = [] ∧ (mY M2).name = "<init>" ∧ mR M2 = none) (hC : Con M2 d2 mc2 ms2 (.ref a :: as) h post2 px2) (hn : as.length = n) (hstk : stk = as.reverse ++ .ref a :: st) (h0 : a ≠ 0) (hroom : d2 + 1 ≤ d ∧ mc2 ≤ rc ∧ ms2 ≤ rs) (hst : (st.map fun v => v.category).sum ≤ 12)
    (k : ∀ v h1, post2 v h1 → AW M d post px (rc - mc2) (rs - ms2) (pc + 3) ls (v.toList ++ st) h1) (kx : ∀ a h1, px2 a h1 → AWX M d post px (rc - mc2) (rs - ms2) pc ls a h1) : AW M d post px rc rs pc ls stk h := by
  intro g p l e R s m args below meth c mc ms F H locs cells slots lsA hR hL hl hc hs T hT X
  have hown := F.2.2.2.2.2.1
  have hts := F.2.2.2.2.2.2.1
  have hA : AK g s := F.2.2.2.2.2.2.2.2.2.2.2
  subst hstk
  have hcode : (Cond.code (mY M2) (mC M2) (mL M2) none).before args s = true := by rw [← hH.2.2, ← acw_code hH.1]; exact hts _ hM.1.2.1
  have es : (as.reverse ++ .ref a :: st).map (tv g) = (as.map (tv g)).reverse ++ .ref (ad g a) :: st.map (tv g) := by rw [List.map_append, List.map_reverse, List.map_cons, tv_p g h0]
  have ea : (((.ref a :: as).map (tv g)).toArray : Array Value) = (Value.ref (ad g a) :: as.map (tv g)).toArray := by rw [List.map_cons, tv_p g h0]
  refine aw_fin (T := T) (stkM := (as.reverse ++ .ref a :: st).map (tv g)) (Av := (Value.ref (ad g a) :: as.map (tv g)).toArray) F hL hl hc hs hroom k kx ?_
  exact vx_callIN X F.1 (bytes := mC M2) (maxL := mL M2) hown hH.2.1 (hA.nestM q1) (hts _ hM.2) hcode hM.1.2.2.1 (aw_back F hC hM.1 hroom) (a := ad g a) (g := F0 m pc lsA ((as.reverse ++ .ref a :: st).map (tv g))) rfl (hl.1.trans F.2.2.2.1.symm) (argsL := as.map (tv g)) (rest := st.map (tv g)) (fun sig hs => (List.length_map _).trans (hn.trans (hM.1.len sig hs))) es (by rw [tv_lst]; show 2 * 0 + _ ≤ 12; omega) (by rw [F.2.2.1]; exact hd) (fun vm₁ hW => by rw [← ea]; exact aw_pre F hT hR hW hc hs hroom)
theorem s_callSU {a : Nat} (hd : decode (mC M) pc = .ok (.invokespecial idx, 3)) (q1 : Cond.methodLink (mY M).cls idx (mY M2) ∈ lw_all) (q2 : Cond.sameMethod (mY M2).cls (mY M2).cls (mY M2).name (mY M2).desc ∈ lw_all) (q3 : Cond.superclass (mY M).cls (mY M2).cls ∈ lw_all) (hM : CI M2 n) (hH : mH M2 = [] ∧ (mY M2).name ≠ "<init>") (hC : Con M2 d2 mc2 ms2 (.ref a :: as) h post2 px2) (hn : as.length = n) (hstk : stk = as.reverse ++ .ref a :: st) (hr : okK (hK h a) = true) (hroom : d2 + 1 ≤ d ∧ mc2 ≤ rc ∧ ms2 ≤ rs) (hst : (st.map fun v => v.category).sum ≤ 12)
    (k : ∀ v h1, post2 v h1 → AW M d post px (rc - mc2) (rs - ms2) (pc + 3) ls (v.toList ++ st) h1) (kx : ∀ a h1, px2 a h1 → AWX M d post px (rc - mc2) (rs - ms2) pc ls a h1) : AW M d post px rc rs pc ls stk h := by
  intro g p l e R s m args below meth c mc ms F H locs cells slots lsA hR hL hl hc hs T hT X
  have hown := F.2.2.2.2.2.1
  have hts := F.2.2.2.2.2.2.1
  have hA : AK g s := F.2.2.2.2.2.2.2.2.2.2.2
  subst hstk
  have h0 : a ≠ 0 := by
    have : hK h a ≠ 0 := fun z => by rw [z] at hr; cases hr
    have := (hR.2.2.1 a this).1
    omega
  have hcode : (Cond.code (mY M2) (mC M2) (mL M2) (mR M2)).before args s = true := by rw [← acw_code hH.1]; exact hts _ hM.1.2.1
  obtain ⟨cell, c1, c2, c3⟩ := recvK hA hR hr
  obtain ⟨kB, hkB, -⟩ := Vm.findClass_spec c3
  have es : (as.reverse ++ .ref a :: st).map (tv g) = (as.map (tv g)).reverse ++ .ref (ad g a) :: st.map (tv g) := by rw [List.map_append, List.map_reverse, List.map_cons, tv_p g h0]
  have ea : (((.ref a :: as).map (tv g)).toArray : Array Value) = (Value.ref (ad g a) :: as.map (tv g)).toArray := by rw [List.map_cons, tv_p g h0]
  refine aw_fin (T := T) (stkM := (as.reverse ++ .ref a :: st).map (tv g)) (Av := (Value.ref (ad g a) :: as.map (tv g)).toArray) F hL hl hc hs hroom k kx ?_
  exact vx_callSU X F.1 (bytes := mC M2) (maxL := mL M2) (ret := mR M2) hown (hts _ q1) (hts _ q2) (hts _ q3) (hts _ hM.2) hcode hH.2 (aw_back F hC hM.1 hroom) (b := ad g a) (by rw [hT]; exact c1) c2 hkB (g := F0 m pc lsA ((as.reverse ++ .ref a :: st).map (tv g))) rfl (hl.1.trans F.2.2.2.1.symm) (argsL := as.map (tv g)) (rest := st.map (tv g)) (fun sig hs => (List.length_map _).trans (hn.trans (hM.1.len sig hs))) es (by rw [tv_lst]; show 2 * 0 + _ ≤ 12; omega) (by rw [F.2.2.1]; exact hd) (fun vm₁ hW => by rw [← ea]; exact aw_pre F hT hR hW hc hs hroom)
end RC2
