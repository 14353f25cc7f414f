/-! mourners: kinds, rates, acts -/
set_option maxRecDepth 100000
section SUU
variable {p : Program} {l : Launch} {e : Env} {R : Room} {s : State} {m : MethodId} {args : Array Value} {below : List Frame} {meth : Method} {c : Code} {H : Heap} {locs : List Loc} {cells slots : Nat}
/-- super.m(..) where the super has m from its own super -/
theorem vx_callSUU {T : State} {locs : List Loc} {cells slots : Nat} (X : Stand p l e R s m args below meth c T locs cells slots) (hexec : p.tables.exec = Jvm.exec) {own : String} {index : Nat} {y : MethodName} {mid : String} {bytes : ByteArray} {maxL : Nat} {ret : Option FieldType}
    (hown : s.vm.findClass own = some m.cls) (hlink : (Cond.methodLink own index ⟨mid, y.name, y.desc⟩).before args s = true) (hsame : (Cond.sameMethod mid y.cls y.name y.desc).before args s = true) (hsup : (Cond.superclass own mid).before args s = true) (hsup2 : (Cond.superclass mid y.cls).before args s = true)
    (hinst : (Cond.instanceMethod y).before args s = true) (hcode : (Cond.code y bytes maxL ret).before args s = true) (hno : y.name ≠ "<init>")
    {W : Nat} {Pre : Pt → Array Value → Prop} {Post : Pt → Array Value → Option Value → Pt → Prop} {PostX : Pt → Array Value → Addr → Pt → Prop} (hK : vx_Back l R p e below s args y 3 W Pre Post PostX)
    {b : Addr} {cellB : Cell} {kB : Class} (hcell : T.heap[b]? = some cellB) (hobj : cellB.vm.isStatics = false) (hkB : s.vm.classes[cellB.cls]? = some kB)
    {g : JFrame} (hg : g.method = m) (hsize : g.locals.size = c.maxLocals) {argsL rest : List Value} (hlen : ∀ sig, parseMethodDescriptor y.desc = some sig → argsL.length = sig.parameters.length)
    (hstack : g.stack = argsL.reverse ++ .ref b :: rest) (hW : 2 * g.monitorRoom + (rest.map fun v => v.category).sum ≤ W) (hdg : decode c.code g.pc = .ok (.invokespecial index, 3))
    (hpre : ∀ vm₁, s.WarmedH vm₁ → Pre ⟨T.setVm vm₁, locs, cells, slots⟩ (Value.ref b :: argsL).toArray) :
    (∃ (v : Option Value) (vm₁ : Vm) (B : Pt), s.WarmedH vm₁ ∧ Stand p l e R s m args below meth c B.U B.locs B.cells B.slots ∧ Post ⟨T.setVm vm₁, locs, cells, slots⟩ (Value.ref b :: argsL).toArray v B ∧
      ∀ target, Steps p.tables e below (B.U.setTop { g with pc := g.pc + 3, stack := v.toList ++ rest }) target → Steps p.tables e below (T.setTop g) target) ∨
    (∃ (q : Addr) (vm₁ : Vm) (B : Pt), s.WarmedH vm₁ ∧ Stand p l e R s m args below meth c B.U B.locs B.cells B.slots ∧ PostX ⟨T.setVm vm₁, locs, cells, slots⟩ (Value.ref b :: argsL).toArray q B ∧
      Steps p.tables e below (T.setTop g) ((B.U.setTop { g with stack := rest }).pushFrame (.throwing q))) := by
  obtain ⟨mk, methM, hnamed, hmethM, hstM, habM⟩ := Cond.instanceMethod_spec hinst
  obtain ⟨methM', cM, hmethM', -, -, -, -, -, -, hsigM⟩ := Cond.code_spec hnamed hcode
  cases hmethM.symm.trans hmethM'
  obtain ⟨ps, dk, kp, hps, hdk, hkp, hsuper, -, -, hnid⟩ := Cond.superclass_spec hown hsup
  obtain ⟨p2, dk2, kp2, hp2, hdk2, hkp2, hsuper2, -, -, -⟩ := Cond.superclass_spec hps hsup2
  have hn : s.methodNamed? ⟨y.cls, y.name, y.desc⟩ = some mk := hnamed
  have hpm : p2 = mk.cls := Option.some.inj (hp2.symm.trans (findClass_of_methodNamed hnamed))
  have hsz : ∃ n, s.vm.classes.size = n + 1 := by
    have : 0 < s.vm.classes.size := Nat.lt_of_le_of_lt (Nat.zero_le _) (Array.getElem?_eq_some_iff.mp hdk2).1
    exact ⟨_, (Nat.succ_pred_eq_of_pos this).symm⟩
  have hsub : s.vm.isSubclass ps mk.cls = true := by
    obtain ⟨n, hn⟩ := hsz
    unfold Vm.isSubclass
    rw [hn, ← hpm]
    simp [Vm.isSubclassAux, hdk2, hsuper2]
  obtain ⟨vm₁, X₁, hstep₁⟩ := X.invokespecialUp hexec (x := ⟨mid, y.name, y.desc⟩) hown hlink hsame hn hmethM hstM habM hno hdk hnid hps hsuper hsub (a := b) (cell := cellB) hcell
    (fun z h => by rw [h] at hobj; cases hobj) hkB (g := g) hg (argsL := argsL) (rest := rest) (hlen _ hsigM) hstack hdg
  rcases hK m meth c ⟨T.setVm vm₁, locs, cells, slots⟩ { g with stack := rest } (.invokespecial index) mk (Value.ref b :: argsL).toArray X₁ hg hsize hdg hW (X₁.named hnamed) (hpre vm₁ X₁.warmed) with ⟨v, B, X', hpost, hsteps⟩ | ⟨q, B, X', hpost, hsteps⟩
  · exact Or.inl ⟨v, vm₁, B, X₁.warmed, X', hpost, fun target h => hstep₁ _ (by rw [doInvoke_state]; exact hsteps.trans h)⟩
  · exact Or.inr ⟨q, vm₁, B, X₁.warmed, X', hpost, hstep₁ _ (by rw [doInvoke_state]; exact hsteps)⟩
end SUU
section RC5
variable {M M2 : AMt} {d d2 mc2 ms2 n : Nat} {post post2 : Option Value → AH → Prop} {px px2 : Nat → AH → Prop} {rc rs pc idx : Nat} {ls : List (Nat × Value)} {st stk as : List Value} {h : AH}
theorem s_callSUU {a : Nat} (hd : decode (mC M) pc = .ok (.invokespecial idx, 3)) (mid : String) (q1 : Cond.methodLink (mY M).cls idx ⟨mid, (mY M2).name, (mY M2).desc⟩ ∈ lw_all) (q2 : Cond.sameMethod mid (mY M2).cls (mY M2).name (mY M2).desc ∈ lw_all) (q3 : Cond.superclass (mY M).cls mid ∈ lw_all) (q4 : Cond.superclass mid (mY M2).cls ∈ lw_all) (hM : CI M2 n) (hH : mH M2 = [] ∧ (mY M2).name ≠ "<init>") (hC : Con M2 d2 mc2 ms2 (.ref a :: as) h post2 px2) (hn : as.length = n) (hstk : stk = as.reverse ++ .ref a :: st) (hr : okK (hK h a) = true) (hroom : d2 + 1 ≤ d ∧ mc2 ≤ rc ∧ ms2 ≤ rs) (hst : (st.map fun v => v.category).sum ≤ 12)
    (k : ∀ v h1, post2 v h1 → AW M d post px (rc - mc2) (rs - ms2) (pc + 3) ls (v.toList ++ st) h1) (kx : ∀ a h1, px2 a h1 → AWX M d post px (rc - mc2) (rs - ms2) pc ls a h1) : AW M d post px rc rs pc ls stk h := by
  intro g p l e R s m args below meth c mc ms F H locs cells slots lsA hR hL hl hc hs T hT X
  have hown := F.2.2.2.2.2.1
  have hts := F.2.2.2.2.2.2.1
  have hA : AK g s := F.2.2.2.2.2.2.2.2.2.2.2
  subst hstk
  have h0 : a ≠ 0 := by
    have : hK h a ≠ 0 := fun z => by rw [z] at hr; cases hr
    have := (hR.2.2.1 a this).1
    omega
  have hcode : (Cond.code (mY M2) (mC M2) (mL M2) (mR M2)).before args s = true := by rw [← acw_code hH.1]; exact hts _ hM.1.2.1
  obtain ⟨cell, c1, c2, c3⟩ := recvK hA hR hr
  obtain ⟨kB, hkB, -⟩ := Vm.findClass_spec c3
  have es : (as.reverse ++ .ref a :: st).map (tv g) = (as.map (tv g)).reverse ++ .ref (ad g a) :: st.map (tv g) := by rw [List.map_append, List.map_reverse, List.map_cons, tv_p g h0]
  have ea : (((.ref a :: as).map (tv g)).toArray : Array Value) = (Value.ref (ad g a) :: as.map (tv g)).toArray := by rw [List.map_cons, tv_p g h0]
  refine aw_fin (T := T) (stkM := (as.reverse ++ .ref a :: st).map (tv g)) (Av := (Value.ref (ad g a) :: as.map (tv g)).toArray) F hL hl hc hs hroom k kx ?_
  exact vx_callSUU X F.1 (mid := mid) (bytes := mC M2) (maxL := mL M2) (ret := mR M2) hown (hts _ q1) (hts _ q2) (hts _ q3) (hts _ q4) (hts _ hM.2) hcode hH.2 (aw_back F hC hM.1 hroom) (b := ad g a) (by rw [hT]; exact c1) c2 hkB (g := F0 m pc lsA ((as.reverse ++ .ref a :: st).map (tv g))) rfl (hl.1.trans F.2.2.2.1.symm) (argsL := as.map (tv g)) (rest := st.map (tv g)) (fun sig hs => (List.length_map _).trans (hn.trans (hM.1.len sig hs))) es (by rw [tv_lst]; show 2 * 0 + _ ≤ 12; omega) (by rw [F.2.2.1]; exact hd) (fun vm₁ hW => by rw [← ea]; exact aw_pre F hT hR hW hc hs hroom)
end RC5
/-- a mourner of some kind -/
def MK (k : Nat) : Prop := 8 ≤ k ∧ k ≤ 14
theorem MK.cs {k : Nat} (z : MK k) {P : Nat → Prop} (h8 : P 8) (h9 : P 9) (h10 : P 10) (h11 : P 11) (h12 : P 12) (h13 : P 13) (h14 : P 14) : P k := by
  obtain ⟨z1, z2⟩ := z
  by_cases e8 : k = 8
  · rw [e8]; exact h8
  by_cases e9 : k = 9
  · rw [e9]; exact h9
  by_cases e10 : k = 10
  · rw [e10]; exact h10
  by_cases e11 : k = 11
  · rw [e11]; exact h11
  by_cases e12 : k = 12
  · rw [e12]; exact h12
  by_cases e13 : k = 13
  · rw [e13]; exact h13
  rw [show k = 14 by omega]; exact h14
theorem MK.ok {k : Nat} (z : MK k) : okK k = true := z.cs (P := fun k => okK k = true) rfl rfl rfl rfl rfl rfl rfl
theorem fo_M_0 {k : Nat} (z : MK k) : FOP k 0 "FuneralDebts$Mourner" "trace" "LFuneralDebts$Trace;" := z.cs (P := fun k => FOP k 0 "FuneralDebts$Mourner" "trace" "LFuneralDebts$Trace;") fo_8_0 fo_9_0 fo_10_0 fo_11_0 fo_12_0 fo_13_0 fo_14_0
theorem fo_M_1 {k : Nat} (z : MK k) : FOI k 1 "FuneralDebts$Mourner" "number" "I" := z.cs (P := fun k => FOI k 1 "FuneralDebts$Mourner" "number" "I") fo_8_1 fo_9_1 fo_10_1 fo_11_1 fo_12_1 fo_13_1 fo_14_1
theorem fo_M_2 {k : Nat} (z : MK k) : FOI k 2 "FuneralDebts$Mourner" "v" "I" := z.cs (P := fun k => FOI k 2 "FuneralDebts$Mourner" "v" "I") fo_8_2 fo_9_2 fo_10_2 fo_11_2 fo_12_2 fo_13_2 fo_14_2
theorem c_kind8 (a : Nat) (h : AH) : Con mX7_kind 0 0 0 [.ref a] h (retV (.int 0) h) nox := by
  refine Con.of rfl rfl (Nat.le_of_ble_eq_true rfl) ?_
  refine s_iconst (v := 0) dX7_kind_0 rfl ?_
  exact s_ireturn .int dX7_kind_1 rfl rfl ⟨rfl, rfl⟩
theorem c_kind9 (a : Nat) (h : AH) : Con mX8_kind 0 0 0 [.ref a] h (retV (.int 1) h) nox := by
  refine Con.of rfl rfl (Nat.le_of_ble_eq_true rfl) ?_
  refine s_iconst (v := 1) dX8_kind_0 rfl ?_
  exact s_ireturn .int dX8_kind_1 rfl rfl ⟨rfl, rfl⟩
theorem c_kind10 (a : Nat) (h : AH) : Con mX9_kind 0 0 0 [.ref a] h (retV (.int 2) h) nox := by
  refine Con.of rfl rfl (Nat.le_of_ble_eq_true rfl) ?_
  refine s_iconst (v := 2) dX9_kind_0 rfl ?_
  exact s_ireturn .int dX9_kind_1 rfl rfl ⟨rfl, rfl⟩
theorem c_kind11 (a : Nat) (h : AH) : Con mX10_kind 0 0 0 [.ref a] h (retV (.int 3) h) nox := by
  refine Con.of rfl rfl (Nat.le_of_ble_eq_true rfl) ?_
  refine s_iconst (v := 3) dX10_kind_0 rfl ?_
  exact s_ireturn .int dX10_kind_1 rfl rfl ⟨rfl, rfl⟩
theorem c_kind12 (a : Nat) (h : AH) : Con mX11_kind 0 0 0 [.ref a] h (retV (.int 4) h) nox := by
  refine Con.of rfl rfl (Nat.le_of_ble_eq_true rfl) ?_
  refine s_iconst (v := 4) dX11_kind_0 rfl ?_
  exact s_ireturn .int dX11_kind_1 rfl rfl ⟨rfl, rfl⟩
theorem c_kind13 (a : Nat) (h : AH) : Con mX12_kind 0 0 0 [.ref a] h (retV (.int 5) h) nox := by
  refine Con.of rfl rfl (Nat.le_of_ble_eq_true rfl) ?_
  refine s_iconst (v := 5) dX12_kind_0 rfl ?_
  exact s_ireturn .int dX12_kind_1 rfl rfl ⟨rfl, rfl⟩
theorem c_kind14 (a : Nat) (h : AH) : Con mX13_kind 0 0 0 [.ref a] h (retV (.int 6) h) nox := by
  refine Con.of rfl rfl (Nat.le_of_ble_eq_true rfl) ?_
  refine s_bipush (v := 6) dX13_kind_0 rfl ?_
  exact s_ireturn .int dX13_kind_2 rfl rfl ⟨rfl, rfl⟩
/-- the rate of a kind k, a sum, a yard, a day, its v, the part of its row -/
def rtE (k : Nat) (v sum yard day row : Int32) : Int32 := if k = 0 then sum else if k = 1 then sum + v else if k = 2 then sum / 2 else if k = 3 then (if yard < 5 then sum else 1) else if k = 4 then (if day - day / 7 * 7 = 0 then 0 else sum + v) else if k = 5 then sum / 2 + 5 else (if yard < 5 then sum else 1) + row
def rtW (sum yard : Int32) : Int32 := if yard < 5 then sum else 1
def rtV (v sum day : Int32) : Int32 := if day - day / 7 * 7 = 0 then 0 else sum + v
theorem c_rt8 {h : AH} {a : Nat} (sum yard day : Int32) : Con mX7_rates 0 0 0 [.ref a, .int sum, .int yard, .int day] h (retV (.int sum) h) nox := by
  refine Con.of rfl rfl (Nat.le_of_ble_eq_true rfl) ?_
  refine s_iload_n 1 dX7_rates_0 rfl rfl ?_
  exact s_ireturn .int dX7_rates_1 rfl rfl ⟨rfl, rfl⟩
theorem c_rt9 {h : AH} {a : Nat} (hk : MK (hK h a)) (sum yard day : Int32) : Con mX8_rates 1 0 0 [.ref a, .int sum, .int yard, .int day] h (retV (.int (sum + hI h a 2)) h) nox := by
  refine Con.of rfl rfl (Nat.le_of_ble_eq_true rfl) ?_
  refine s_aload_n 0 dX8_rates_0 rfl rfl ?_
  refine s_iload_n 1 dX8_rates_1 rfl rfl ?_
  refine s_iload_n 2 dX8_rates_2 rfl rfl ?_
  refine s_iload_n 3 dX8_rates_3 rfl rfl ?_
  refine s_callSU_p (M2 := mX7_rates) dX8_rates_4 q587 q575 q422 inX7_rates ⟨rfl, by decide⟩ (c_rt8 _ _ _) rfl rfl hk.ok ⟨by decide, by decide, by decide⟩ (Nat.le_of_ble_eq_true rfl) ?_
  refine s_aload_n 0 dX8_rates_7 rfl rfl ?_
  refine s_getI dX8_rates_8 fl_X8_13 (fo_M_2 hk) ?_
  refine s_iadd dX8_rates_11 ?_
  exact s_ireturn .int dX8_rates_12 rfl rfl ⟨rfl, rfl⟩
theorem c_rt10 {h : AH} {a : Nat} (hk : MK (hK h a)) (sum yard day : Int32) : Con mX9_rates 1 0 0 [.ref a, .int sum, .int yard, .int day] h (retV (.int (sum / 2)) h) nox := by
  refine Con.of rfl rfl (Nat.le_of_ble_eq_true rfl) ?_
  refine s_aload_n 0 dX9_rates_0 rfl rfl ?_
  refine s_iload_n 1 dX9_rates_1 rfl rfl ?_
  refine s_iload_n 2 dX9_rates_2 rfl rfl ?_
  refine s_iload_n 3 dX9_rates_3 rfl rfl ?_
  refine s_callSU_p (M2 := mX7_rates) dX9_rates_4 q582 q575 q432 inX7_rates ⟨rfl, by decide⟩ (c_rt8 _ _ _) rfl rfl hk.ok ⟨by decide, by decide, by decide⟩ (Nat.le_of_ble_eq_true rfl) ?_
  refine s_iconst (v := 2) dX9_rates_7 rfl ?_
  refine s_idiv dX9_rates_8 (by decide) ?_
  exact s_ireturn .int dX9_rates_9 rfl rfl ⟨rfl, rfl⟩
theorem c_rt11 {h : AH} {a : Nat} (hk : MK (hK h a)) (sum yard day : Int32) : Con mX10_rates 1 0 0 [.ref a, .int sum, .int yard, .int day] h (retV (.int (rtW sum yard)) h) nox := by
  refine Con.of rfl rfl (Nat.le_of_ble_eq_true rfl) ?_
  refine s_iload_n 2 dX10_rates_0 rfl rfl ?_
  refine s_iconst (v := 5) dX10_rates_1 rfl ?_
  refine s_icmp_lt 9 dX10_rates_2 (by decide) (fun c2 => ?_) (fun c2 => ?_)
  · skip
    refine s_aload_n 0 dX10_rates_9 rfl rfl ?_
    refine s_iload_n 1 dX10_rates_10 rfl rfl ?_
    refine s_iload_n 2 dX10_rates_11 rfl rfl ?_
    refine s_iload_n 3 dX10_rates_12 rfl rfl ?_
    refine s_callSU_p (M2 := mX7_rates) dX10_rates_13 q595 q575 q442 inX7_rates ⟨rfl, by decide⟩ (c_rt8 _ _ _) rfl rfl hk.ok ⟨by decide, by decide, by decide⟩ (Nat.le_of_ble_eq_true rfl) ?_
    exact s_ireturn .int dX10_rates_16 rfl rfl (rve (if_pos c2))
  · skip
    refine s_iconst (v := 1) dX10_rates_5 rfl ?_
    refine s_goto 16 dX10_rates_6 (by decide) ?_
    exact s_ireturn .int dX10_rates_16 rfl rfl (rve (if_neg c2))
theorem c_rt12 {h : AH} {a : Nat} (hk : MK (hK h a)) (sum yard day : Int32) : Con mX11_rates 2 0 0 [.ref a, .int sum, .int yard, .int day] h (retV (.int (rtV (hI h a 2) sum day)) h) nox := by
  refine Con.of rfl rfl (Nat.le_of_ble_eq_true rfl) ?_
  refine s_iload_n 3 dX11_rates_0 rfl rfl ?_
  refine s_bipush (v := 7) dX11_rates_1 rfl ?_
  refine s_irem dX11_rates_3 (by decide) ?_
  refine s_if_ne 11 dX11_rates_4 (by decide) (fun c4 => ?_) (fun c4 => ?_)
  · skip
    refine s_aload_n 0 dX11_rates_11 rfl rfl ?_
    refine s_iload_n 1 dX11_rates_12 rfl rfl ?_
    refine s_iload_n 2 dX11_rates_13 rfl rfl ?_
    refine s_iload_n 3 dX11_rates_14 rfl rfl ?_
    refine s_callSU_p (M2 := mX8_rates) dX11_rates_15 q599 q1751 q452 inX8_rates ⟨rfl, by decide⟩ (c_rt9 hk _ _ _) rfl rfl hk.ok ⟨by decide, by decide, by decide⟩ (Nat.le_of_ble_eq_true rfl) ?_
    exact s_ireturn .int dX11_rates_18 rfl rfl (rve (if_neg c4))
  · skip
    refine s_iconst (v := 0) dX11_rates_7 rfl ?_
    refine s_goto 18 dX11_rates_8 (by decide) ?_
    exact s_ireturn .int dX11_rates_18 rfl rfl (rve (if_pos c4))
theorem c_rt13 {h : AH} {a : Nat} (hk : MK (hK h a)) (sum yard day : Int32) : Con mX12_rates 2 0 0 [.ref a, .int sum, .int yard, .int day] h (retV (.int (sum / 2 + 5)) h) nox := by
  refine Con.of rfl rfl (Nat.le_of_ble_eq_true rfl) ?_
  refine s_aload_n 0 dX12_rates_0 rfl rfl ?_
  refine s_iload_n 1 dX12_rates_1 rfl rfl ?_
  refine s_iload_n 2 dX12_rates_2 rfl rfl ?_
  refine s_iload_n 3 dX12_rates_3 rfl rfl ?_
  refine s_callSU_p (M2 := mX9_rates) dX12_rates_4 q579 q1749 q462 inX9_rates ⟨rfl, by decide⟩ (c_rt10 hk _ _ _) rfl rfl hk.ok ⟨by decide, by decide, by decide⟩ (Nat.le_of_ble_eq_true rfl) ?_
  refine s_iconst (v := 5) dX12_rates_7 rfl ?_
  refine s_iadd dX12_rates_8 ?_
  exact s_ireturn .int dX12_rates_9 rfl rfl ⟨rfl, rfl⟩
theorem nI_rem4 : ∀ y, y < 10 → nI y - nI y / 4 * 4 = nI (y % 4) := by decide +kernel
theorem c_rt14 {h : AH} (w : WF h) {a : Nat} (hk : hK h a = 14) (hp : hP h a 3 = 18) (sum : Int32) (n y : Nat) (hn : hI h a 1 = nI n) (hn6 : n < 6) (hy : y < 10) (day : Int32) : Con mX13_rates 2 0 0 [.ref a, .int sum, .int (nI y), .int day] h (retV (.int (rtW sum (nI y) + hI h 18 (4 * n + y % 4))) h) nox := by
  have hm : MK (hK h a) := by rw [hk]; exact ⟨by decide, by decide⟩
  refine Con.of rfl rfl (Nat.le_of_ble_eq_true rfl) ?_
  refine s_aload_n 0 dX13_rates_0 rfl rfl ?_
  refine s_iload_n 1 dX13_rates_1 rfl rfl ?_
  refine s_iload_n 2 dX13_rates_2 rfl rfl ?_
  refine s_iload_n 3 dX13_rates_3 rfl rfl ?_
  refine s_callSU_p (M2 := mX10_rates) dX13_rates_4 q592 q1750 q475 inX10_rates ⟨rfl, by decide⟩ (c_rt11 hm _ _ _) rfl rfl hm.ok ⟨by decide, by decide, by decide⟩ (Nat.le_of_ble_eq_true rfl) ?_
  refine s_aload_n 0 dX13_rates_7 rfl rfl ?_
  refine s_getP dX13_rates_8 fl_X13_9 (fo_14_3.at hk) hp ?_
  refine s_iconst (v := 4) dX13_rates_11 rfl ?_
  refine s_aload_n 0 dX13_rates_12 rfl rfl ?_
  refine s_getI dX13_rates_13 fl_X13_19 (fo_14_1.at hk) ?_
  refine s_imul dX13_rates_16 ?_
  refine s_iload_n 2 dX13_rates_17 rfl rfl ?_
  refine s_iconst (v := 4) dX13_rates_18 rfl ?_
  refine s_irem dX13_rates_19 (by decide) ?_
  refine s_iadd dX13_rates_20 ?_
  have hr := nI_rem4 y hy
  have hq : (4 : Int32) * hI h a 1 + (nI y - nI y / 4 * 4) = nI (4 * n + y % 4) := by rw [hn, hr]; exact nI_ma 4 n (y % 4)
  refine s_iald (j := (4 * n + y % 4)) dX13_rates_21 (wk_18 w) (ixn (wn_18 w) (ix_eq hq (by omega) (by decide))) ?_
  refine s_iadd dX13_rates_22 ?_
  exact s_ireturn .int dX13_rates_23 rfl rfl ⟨rfl, rfl⟩
/-- bodies run, one behind the other -/
def ranL (h : AH) (l : List Int32) : AH := l.foldl ranH h
theorem ranL_app (h : AH) (l l' : List Int32) : ranL (ranL h l) l' = ranL h (l ++ l') := (List.foldl_append ..).symm
def TrO (h : AH) (n : Nat) : Prop := WF h ∧ hI h 31 1 = nI n
theorem ranH_h (h : AH) (b : Int32) : ranH h b = sI h 31 1 (hI h 31 1 + 1) ∨ ranH h b = sI (sI h 32 (hI h 31 1).toNatClampNeg b) 31 1 (hI h 31 1 + 1) := by
  unfold ranH
  by_cases c : hI h 31 1 < 20
  · rw [if_pos c]; exact Or.inr rfl
  · rw [if_neg c]; exact Or.inl rfl
theorem TrO.ran {h : AH} {n : Nat} (z : TrO h n) (b : Int32) : TrO (ranH h b) (n + 1) := by
  have e : hI h 31 1 + 1 = nI (n + 1) := by rw [z.2, nI_succ]
  rcases ranH_h h b with r | r <;> rw [r]
  · exact ⟨z.1, by rw [hI_sI, e]⟩
  · exact ⟨z.1, by rw [hI_sI, e]⟩
theorem TrO.ranL {n : Nat} : ∀ {h : AH} {m : Nat} (l : List Int32), TrO h m → m + l.length = n → TrO (ranL h l) n
  | h, m, [], z, e => by subst e; exact z
  | h, m, b :: l, z, e => TrO.ranL l (z.ran b) (by rw [List.length_cons] at e; omega)
theorem ranH_o {h : AH} {b : Int32} {a f : Nat} (h1 : a ≠ 31) (h2 : a ≠ 32) : hI (ranH h b) a f = hI h a f := by
  rcases ranH_h h b with r | r <;> rw [r]
  · rw [hI_sI_ne (by omega)]
  · rw [hI_sI_ne (by omega), hI_sI_ne (by omega)]
theorem ranL_o {a f : Nat} (h1 : a ≠ 31) (h2 : a ≠ 32) : ∀ (l : List Int32) {h : AH}, hI (ranL h l) a f = hI h a f
  | [], h => rfl
  | b :: l, h => (ranL_o h1 h2 l).trans (ranH_o h1 h2)
theorem ranH_K {h : AH} {b : Int32} : (ranH h b).1 = h.1 ∧ (ranH h b).2.1 = h.2.1 ∧ (ranH h b).2.2.2 = h.2.2.2 := by
  rcases ranH_h h b with r | r <;> rw [r] <;> exact ⟨rfl, rfl, rfl⟩
theorem ranL_K : ∀ (l : List Int32) {h : AH}, (ranL h l).1 = h.1 ∧ (ranL h l).2.1 = h.2.1 ∧ (ranL h l).2.2.2 = h.2.2.2
  | [], h => ⟨rfl, rfl, rfl⟩
  | b :: l, h => ⟨(ranL_K l).1.trans ranH_K.1, (ranL_K l).2.1.trans ranH_K.2.1, (ranL_K l).2.2.trans ranH_K.2.2⟩
/-- a mourner at a, of kind 8 + k, with its number and v -/
def Mr (h : AH) (a k : Nat) (n v : Int32) : Prop := hK h a = 8 + k ∧ (k ≤ 6 ∧ 81 ≤ a) ∧ hP h a 0 = 31 ∧ hI h a 1 = n ∧ hI h a 2 = v
section MR
variable {h : AH} {a k : Nat} {n v : Int32}
theorem Mr.mk (z : Mr h a k n v) : MK (hK h a) := ⟨by rw [z.1]; omega, by have := z.2.1; rw [z.1]; omega⟩
theorem Mr.ok (z : Mr h a k n v) : okK (hK h a) = true := z.mk.ok
theorem Mr.ne (z : Mr h a k n v) (w : WF h) : a ≠ 31 ∧ a ≠ 32 := by
  have h1 := z.1
  refine ⟨fun e => ?_, fun e => ?_⟩
  · subst e; rw [wk_31 w] at h1; have := z.2.1; omega
  · subst e; rw [wk_32 w] at h1; have := z.2.1; omega
theorem Mr.ran (z : Mr h a k n v) (w : WF h) (l : List Int32) : Mr (ranL h l) a k n v := by
  have hn := z.ne w
  have hkk := ranL_K l (h := h)
  refine ⟨(congrFun hkk.1 a).trans z.1, z.2.1, ?_, (ranL_o hn.1 hn.2 l).trans z.2.2.2.1, (ranL_o hn.1 hn.2 l).trans z.2.2.2.2⟩
  have : (ranL h l).2.2.2.2.1 = h.2.2.2.2.1 := by rw [hkk.2.2]
  show (ranL h l).2.2.2.2.1 a 0 = 31
  rw [this]
  exact z.2.2.1
end MR
theorem ran1 (h : AH) (b : Int32) : ranH h b = ranL h [b] := rfl
/-- stands, sighs, tells: the bodies that run, the answer; for the kind k -/
def sta (k : Nat) (n v x : Int32) : List Int32 × Int32 := if k = 2 ∨ k = 5 then ([30, 10], x * 3 + n) else if k = 4 then ([50, 10], -(x + n)) else if k = 6 then ([71, 10], (x + n) ^^^ v) else ([10], x + n)
def sigM (k : Nat) (n v x : Int32) : List Int32 × Int32 := (11 :: (sta k n v x).1, (sta k n v x).2 - v)
def sigC (k : Nat) (n v x : Int32) : List Int32 × Int32 := (20 :: (sigM k n v x).1, (sigM k n v x).2 ^^^ 6)
def sig (k : Nat) (n v x : Int32) : List Int32 × Int32 := if k = 1 then sigC k n v x else if k = 4 then (51 :: (sigC k n v (x + 1)).1, (sigC k n v (x + 1)).2) else if k = 6 then (70 :: ((sigM k n v x).1 ++ [10]), (sigM k n v x).2 + (2 + n)) else sigM k n v x
def telM (k : Nat) (n v x : Int32) : List Int32 × Int32 := (12 :: (sig k n v x).1, (sig k n v x).2 * 2)
def telW (k : Nat) (n v x : Int32) : List Int32 × Int32 := (40 :: ((telM k n v x).1 ++ (sig k n v 1).1), (telM k n v x).2 + (sig k n v 1).2)
def tel (k : Nat) (n v x : Int32) : List Int32 × Int32 := if k = 3 ∨ k = 6 then telW k n v x else if k = 5 then (60 :: (telM k n v (x - n)).1, (telM k n v (x - n)).2) else telM k n v x
theorem sta_n (k : Nat) (n v x : Int32) : (sta k n v x).1.length ≤ 2 := by
  unfold sta
  repeat' split
  all_goals (first | exact Nat.le_refl 2 | exact Nat.le_succ 1)
theorem sigM_n (k : Nat) (n v x : Int32) : (sigM k n v x).1.length ≤ 3 := by have := sta_n k n v x; show (sta k n v x).1.length + 1 ≤ 3; omega
theorem sigC_n (k : Nat) (n v x : Int32) : (sigC k n v x).1.length ≤ 4 := by have := sigM_n k n v x; show (sigM k n v x).1.length + 1 ≤ 4; omega
theorem sig_n (k : Nat) (n v x : Int32) : (sig k n v x).1.length ≤ 5 := by
  have h1 := sigC_n k n v x
  have h2 := sigC_n k n v (x + 1)
  have h3 := sigM_n k n v x
  unfold sig
  repeat' split
  · omega
  · show (sigC k n v (x + 1)).1.length + 1 ≤ 5; omega
  · show ((sigM k n v x).1 ++ [10]).length + 1 ≤ 5; rw [List.length_append]; show _ + 1 + 1 ≤ 5; omega
  · omega
theorem telM_n (k : Nat) (n v x : Int32) : (telM k n v x).1.length ≤ 6 := by have := sig_n k n v x; show (sig k n v x).1.length + 1 ≤ 6; omega
theorem tel_n (k : Nat) (n v x : Int32) : (tel k n v x).1.length ≤ 12 := by
  have h1 := telM_n k n v x
  have h2 := telM_n k n v (x - n)
  have h3 := sig_n k n v 1
  unfold tel telW
  repeat' split
  · show ((telM k n v x).1 ++ (sig k n v 1).1).length + 1 ≤ 12; rw [List.length_append]; omega
  · show (telM k n v (x - n)).1.length + 1 ≤ 12; omega
  · omega
theorem c_st8 {h : AH} {a k : Nat} {n v : Int32} (z : Mr h a k n v) {m : Nat} (tr : TrO h m) (hm : m < 1000) (x : Int32) : Con mX7_stands 1 0 0 [.ref a, .int x] h (retH (some (.int (([10], x + n)).2)) (ranL h (([10], x + n)).1)) nox := by
  refine Con.of rfl rfl (Nat.le_of_ble_eq_true rfl) ?_
  refine s_aload_n 0 dX7_stands_0 rfl rfl ?_
  refine s_getP dX7_stands_1 fl_X7_7 (fo_M_0 z.mk) z.2.2.1 ?_
  refine s_bipush (v := 10) dX7_stands_4 rfl ?_
  refine s_callV (M2 := mX4_ran) dX7_stands_6 q1206 bX4_ran inX4_ran.2 q1202 rfl (c_ran _ _ tr.1 m (by omega) tr.2) rfl rfl (rk (wk_31 tr.1) rfl rfl) ⟨by decide, by decide, by decide⟩ (Nat.le_of_ble_eq_true rfl) (fun v1 h1 v1z => ?_) (fun _ _ z => z.elim)
  obtain ⟨rfl, rfl⟩ := v1z
  have tr1 := tr.ran 10
  have z1 := z.ran tr.1 [10]
  rw [ran1]
  rw [ran1] at tr1
  refine s_iload_n 1 dX7_stands_9 rfl rfl ?_
  refine s_aload_n 0 dX7_stands_10 rfl rfl ?_
  refine s_getI dX7_stands_11 fl_X7_13 (fo_M_1 z1.mk) ?_
  rw [z1.2.2.2.1]
  refine s_iadd dX7_stands_14 ?_
  exact s_ireturn .int dX7_stands_15 rfl rfl ⟨rfl, rfl⟩
theorem c_st10 {h : AH} {a k : Nat} {n v : Int32} (z : Mr h a k n v) {m : Nat} (tr : TrO h m) (hm : m < 990) (x : Int32) : Con mX9_stands 2 0 0 [.ref a, .int x] h (retH (some (.int (([30, 10], x * 3 + n)).2)) (ranL h (([30, 10], x * 3 + n)).1)) nox := by
  refine Con.of rfl rfl (Nat.le_of_ble_eq_true rfl) ?_
  refine s_aload_n 0 dX9_stands_0 rfl rfl ?_
  refine s_getP dX9_stands_1 fl_X9_13 (fo_M_0 z.mk) z.2.2.1 ?_
  refine s_bipush (v := 30) dX9_stands_4 rfl ?_
  refine s_callV (M2 := mX4_ran) dX9_stands_6 q1200 bX4_ran inX4_ran.2 q1202 rfl (c_ran _ _ tr.1 m (by omega) tr.2) rfl rfl (rk (wk_31 tr.1) rfl rfl) ⟨by decide, by decide, by decide⟩ (Nat.le_of_ble_eq_true rfl) (fun v1 h1 v1z => ?_) (fun _ _ z => z.elim)
  obtain ⟨rfl, rfl⟩ := v1z
  have tr1 := tr.ran 30
  have z1 := z.ran tr.1 [30]
  rw [ran1]
  rw [ran1] at tr1
  refine s_aload_n 0 dX9_stands_9 rfl rfl ?_
  refine s_iload_n 1 dX9_stands_10 rfl rfl ?_
  refine s_iconst (v := 3) dX9_stands_11 rfl ?_
  refine s_imul dX9_stands_12 ?_
  refine s_callSU (M2 := mX7_stands) dX9_stands_13 q1204 q1196 q432 inX7_stands ⟨rfl, by decide⟩ (c_st8 z1 tr1 (by omega) _) rfl rfl z1.ok ⟨by decide, by decide, by decide⟩ (Nat.le_of_ble_eq_true rfl) (fun v2 h2 v2z => ?_) (fun _ _ z => z.elim)
  obtain ⟨rfl, rfl⟩ := v2z
  exact s_ireturn .int dX9_stands_16 rfl rfl ⟨rfl, rfl⟩
theorem c_st12 {h : AH} {a k : Nat} {n v : Int32} (z : Mr h a k n v) {m : Nat} (tr : TrO h m) (hm : m < 990) (x : Int32) : Con mX11_stands 2 0 0 [.ref a, .int x] h (retH (some (.int (([50, 10], -(x + n))).2)) (ranL h (([50, 10], -(x + n))).1)) nox := by
  refine Con.of rfl rfl (Nat.le_of_ble_eq_true rfl) ?_
  refine s_aload_n 0 dX11_stands_0 rfl rfl ?_
  refine s_getP dX11_stands_1 fl_X11_13 (fo_M_0 z.mk) z.2.2.1 ?_
  refine s_bipush (v := 50) dX11_stands_4 rfl ?_
  refine s_callV (M2 := mX4_ran) dX11_stands_6 q1219 bX4_ran inX4_ran.2 q1202 rfl (c_ran _ _ tr.1 m (by omega) tr.2) rfl rfl (rk (wk_31 tr.1) rfl rfl) ⟨by decide, by decide, by decide⟩ (Nat.le_of_ble_eq_true rfl) (fun v1 h1 v1z => ?_) (fun _ _ z => z.elim)
  obtain ⟨rfl, rfl⟩ := v1z
  have tr1 := tr.ran 50
  have z1 := z.ran tr.1 [50]
  rw [ran1]
  rw [ran1] at tr1
  refine s_aload_n 0 dX11_stands_9 rfl rfl ?_
  refine s_iload_n 1 dX11_stands_10 rfl rfl ?_
  refine s_callSUU (M2 := mX7_stands) dX11_stands_11 "FuneralDebts$Cousin" q1220 q1221 q452 q422 inX7_stands ⟨rfl, by decide⟩ (c_st8 z1 tr1 (by omega) _) rfl rfl z1.ok ⟨by decide, by decide, by decide⟩ (Nat.le_of_ble_eq_true rfl) (fun v2 h2 v2z => ?_) (fun _ _ z => z.elim)
  obtain ⟨rfl, rfl⟩ := v2z
  refine s_ineg dX11_stands_14 ?_
  exact s_ireturn .int dX11_stands_15 rfl rfl ⟨rfl, rfl⟩
theorem c_st14 {h : AH} {a k : Nat} {n v : Int32} (z : Mr h a k n v) {m : Nat} (tr : TrO h m) (hm : m < 990) (x : Int32) : Con mX13_stands 2 0 0 [.ref a, .int x] h (retH (some (.int (([71, 10], (x + n) ^^^ v)).2)) (ranL h (([71, 10], (x + n) ^^^ v)).1)) nox := by
  refine Con.of rfl rfl (Nat.le_of_ble_eq_true rfl) ?_
  refine s_aload_n 0 dX13_stands_0 rfl rfl ?_
  refine s_getP dX13_stands_1 fl_X13_23 (fo_M_0 z.mk) z.2.2.1 ?_
  refine s_bipush (v := 71) dX13_stands_4 rfl ?_
  refine s_callV (M2 := mX4_ran) dX13_stands_6 q1212 bX4_ran inX4_ran.2 q1202 rfl (c_ran _ _ tr.1 m (by omega) tr.2) rfl rfl (rk (wk_31 tr.1) rfl rfl) ⟨by decide, by decide, by decide⟩ (Nat.le_of_ble_eq_true rfl) (fun v1 h1 v1z => ?_) (fun _ _ z => z.elim)
  obtain ⟨rfl, rfl⟩ := v1z
  have tr1 := tr.ran 71
  have z1 := z.ran tr.1 [71]
  rw [ran1]
  rw [ran1] at tr1
  refine s_aload_n 0 dX13_stands_9 rfl rfl ?_
  refine s_iload_n 1 dX13_stands_10 rfl rfl ?_
  refine s_callSUU (M2 := mX7_stands) dX13_stands_11 "FuneralDebts$Weeper" q1213 q1214 q475 q442 inX7_stands ⟨rfl, by decide⟩ (c_st8 z1 tr1 (by omega) _) rfl rfl z1.ok ⟨by decide, by decide, by decide⟩ (Nat.le_of_ble_eq_true rfl) (fun v2 h2 v2z => ?_) (fun _ _ z => z.elim)
  obtain ⟨rfl, rfl⟩ := v2z
  have z2 := z1.ran tr1.1 [10]
  refine s_aload_n 0 dX13_stands_14 rfl rfl ?_
  refine s_getI dX13_stands_15 fl_X13_40 (fo_M_2 z2.mk) ?_
  rw [z2.2.2.2.2]
  refine s_ixor dX13_stands_18 ?_
  exact s_ireturn .int dX13_stands_19 rfl rfl ⟨rfl, rfl⟩
theorem v_stands {M : AMt} {d : Nat} {post : Option Value → AH → Prop} {px : Nat → AH → Prop} {rc rs pc idx : Nat} {ls : List (Nat × Value)} {st : List Value} {h : AH} {a k : Nat} {n v : Int32} (z : Mr h a k n v) {m : Nat} (tr : TrO h m) (hm : m < 990) (x : Int32) (hd : decode (mC M) pc = .ok (.invokevirtual idx, 3)) (q1 : Cond.methodLink (mY M).cls idx yX7_stands ∈ lw_all) (hroom : 2 + 1 ≤ d) (hst : (st.map fun v => v.category).sum ≤ 12)
    (kk : AW M d post px rc rs (pc + 3) ls (.int (sta k n v x).2 :: st) (ranL h (sta k n v x).1)) : AW M d post px rc rs pc ls (.int x :: .ref a :: st) h := by
  obtain ⟨zk, z6, zr⟩ := z
  by_cases e0 : k = 0
  · subst e0
    exact s_callV (M2 := mX7_stands) (as := [.int x]) hd q1 bX7_stands inX7_stands.2 q1195 rfl (c_st8 ⟨zk, z6, zr⟩ tr (by omega) x) rfl rfl (rk zk rfl rfl) ⟨by omega, by omega, by omega⟩ hst (fun v9 h9 z9 => by obtain ⟨rfl, rfl⟩ := z9; exact kk) (fun _ _ z9 => z9.elim)
  by_cases e1 : k = 1
  · subst e1
    exact s_callV (M2 := mX7_stands) (as := [.int x]) hd q1 bX7_stands inX7_stands.2 q1207 rfl (c_st8 ⟨zk, z6, zr⟩ tr (by omega) x) rfl rfl (rk zk rfl rfl) ⟨by omega, by omega, by omega⟩ hst (fun v9 h9 z9 => by obtain ⟨rfl, rfl⟩ := z9; exact kk) (fun _ _ z9 => z9.elim)
  by_cases e2 : k = 2
  · subst e2
    exact s_callVU (M2 := mX9_stands) (as := [.int x]) hd (x := yX7_stands) "FuneralDebts$Mourner" q1 q1196 (Or.inr ⟨mX7_stands, rfl, bX7_stands.2.1, rfl, inX7_stands.2⟩) ⟨by decide, by decide⟩ bX7_stands.2.2.2.1 bX9_stands inX9_stands.2 q1208 rfl (c_st10 ⟨zk, z6, zr⟩ tr (by omega) x) rfl rfl (rk zk rfl rfl) ⟨by omega, by omega, by omega⟩ hst (fun v9 h9 z9 => by obtain ⟨rfl, rfl⟩ := z9; exact kk) (fun _ _ z9 => z9.elim)
  by_cases e3 : k = 3
  · subst e3
    exact s_callV (M2 := mX7_stands) (as := [.int x]) hd q1 bX7_stands inX7_stands.2 q1222 rfl (c_st8 ⟨zk, z6, zr⟩ tr (by omega) x) rfl rfl (rk zk rfl rfl) ⟨by omega, by omega, by omega⟩ hst (fun v9 h9 z9 => by obtain ⟨rfl, rfl⟩ := z9; exact kk) (fun _ _ z9 => z9.elim)
  by_cases e4 : k = 4
  · subst e4
    exact s_callVU (M2 := mX11_stands) (as := [.int x]) hd (x := yX7_stands) "FuneralDebts$Mourner" q1 q1196 (Or.inr ⟨mX7_stands, rfl, bX7_stands.2.1, rfl, inX7_stands.2⟩) ⟨by decide, by decide⟩ bX7_stands.2.2.2.1 bX11_stands inX11_stands.2 q1216 rfl (c_st12 ⟨zk, z6, zr⟩ tr (by omega) x) rfl rfl (rk zk rfl rfl) ⟨by omega, by omega, by omega⟩ hst (fun v9 h9 z9 => by obtain ⟨rfl, rfl⟩ := z9; exact kk) (fun _ _ z9 => z9.elim)
  by_cases e5 : k = 5
  · subst e5
    exact s_callVU (M2 := mX9_stands) (as := [.int x]) hd (x := yX7_stands) "FuneralDebts$Mourner" q1 q1196 (Or.inr ⟨mX7_stands, rfl, bX7_stands.2.1, rfl, inX7_stands.2⟩) ⟨by decide, by decide⟩ bX7_stands.2.2.2.1 bX9_stands inX9_stands.2 q1197 rfl (c_st10 ⟨zk, z6, zr⟩ tr (by omega) x) rfl rfl (rk zk rfl rfl) ⟨by omega, by omega, by omega⟩ hst (fun v9 h9 z9 => by obtain ⟨rfl, rfl⟩ := z9; exact kk) (fun _ _ z9 => z9.elim)
  by_cases e6 : k = 6
  · subst e6
    exact s_callVU (M2 := mX13_stands) (as := [.int x]) hd (x := yX7_stands) "FuneralDebts$Mourner" q1 q1196 (Or.inr ⟨mX7_stands, rfl, bX7_stands.2.1, rfl, inX7_stands.2⟩) ⟨by decide, by decide⟩ bX7_stands.2.2.2.1 bX13_stands inX13_stands.2 q1209 rfl (c_st14 ⟨zk, z6, zr⟩ tr (by omega) x) rfl rfl (rk zk rfl rfl) ⟨by omega, by omega, by omega⟩ hst (fun v9 h9 z9 => by obtain ⟨rfl, rfl⟩ := z9; exact kk) (fun _ _ z9 => z9.elim)
  omega
theorem c_sgM {h : AH} {a k : Nat} {n v : Int32} (z : Mr h a k n v) {m : Nat} (tr : TrO h m) (hm : m < 980) (x : Int32) : Con mX7_sighs 3 0 0 [.ref a, .int x] h (retH (some (.int (sigM k n v x).2)) (ranL h (sigM k n v x).1)) nox := by
  refine Con.of rfl rfl (Nat.le_of_ble_eq_true rfl) ?_
  refine s_aload_n 0 dX7_sighs_0 rfl rfl ?_
  refine s_getP dX7_sighs_1 fl_X7_7 (fo_M_0 z.mk) z.2.2.1 ?_
  refine s_bipush (v := 11) dX7_sighs_4 rfl ?_
  refine s_callV (M2 := mX4_ran) dX7_sighs_6 q1206 bX4_ran inX4_ran.2 q1202 rfl (c_ran _ _ tr.1 m (by omega) tr.2) rfl rfl (rk (wk_31 tr.1) rfl rfl) ⟨by decide, by decide, by decide⟩ (Nat.le_of_ble_eq_true rfl) (fun v1 h1 v1z => ?_) (fun _ _ z => z.elim)
  obtain ⟨rfl, rfl⟩ := v1z
  have tr1 := tr.ran 11
  have z1 := z.ran tr.1 [11]
  rw [ran1]
  rw [ran1] at tr1
  refine s_aload_n 0 dX7_sighs_9 rfl rfl ?_
  refine s_iload_n 1 dX7_sighs_10 rfl rfl ?_
  refine v_stands z1 tr1 (by omega) _ dX7_sighs_11 q1234 (by decide) (Nat.le_of_ble_eq_true rfl) ?_
  have z2 := z1.ran tr1.1 (sta k n v x).1
  refine s_aload_n 0 dX7_sighs_14 rfl rfl ?_
  refine s_getI dX7_sighs_15 fl_X7_17 (fo_M_2 z2.mk) ?_
  rw [z2.2.2.2.2]
  refine s_isub dX7_sighs_18 ?_
  exact s_ireturn .int dX7_sighs_19 rfl rfl ⟨rfl, rfl⟩
theorem c_sgC {h : AH} {a k : Nat} {n v : Int32} (z : Mr h a k n v) {m : Nat} (tr : TrO h m) (hm : m < 970) (x : Int32) : Con mX8_sighs 4 0 0 [.ref a, .int x] h (retH (some (.int (sigC k n v x).2)) (ranL h (sigC k n v x).1)) nox := by
  refine Con.of rfl rfl (Nat.le_of_ble_eq_true rfl) ?_
  refine s_aload_n 0 dX8_sighs_0 rfl rfl ?_
  refine s_getP dX8_sighs_1 fl_X8_19 (fo_M_0 z.mk) z.2.2.1 ?_
  refine s_bipush (v := 20) dX8_sighs_4 rfl ?_
  refine s_callV (M2 := mX4_ran) dX8_sighs_6 q1231 bX4_ran inX4_ran.2 q1202 rfl (c_ran _ _ tr.1 m (by omega) tr.2) rfl rfl (rk (wk_31 tr.1) rfl rfl) ⟨by decide, by decide, by decide⟩ (Nat.le_of_ble_eq_true rfl) (fun v1 h1 v1z => ?_) (fun _ _ z => z.elim)
  obtain ⟨rfl, rfl⟩ := v1z
  have tr1 := tr.ran 20
  have z1 := z.ran tr.1 [20]
  rw [ran1]
  rw [ran1] at tr1
  refine s_aload_n 0 dX8_sighs_9 rfl rfl ?_
  refine s_iload_n 1 dX8_sighs_10 rfl rfl ?_
  refine s_callSU (M2 := mX7_sighs) dX8_sighs_11 q1232 q1226 q422 inX7_sighs ⟨rfl, by decide⟩ (c_sgM z1 tr1 (by omega) _) rfl rfl z1.ok ⟨by decide, by decide, by decide⟩ (Nat.le_of_ble_eq_true rfl) (fun v2 h2 v2z => ?_) (fun _ _ z => z.elim)
  obtain ⟨rfl, rfl⟩ := v2z
  refine s_bipush (v := 6) dX8_sighs_14 rfl ?_
  refine s_ixor dX8_sighs_16 ?_
  exact s_ireturn .int dX8_sighs_17 rfl rfl ⟨rfl, rfl⟩
theorem c_sgV {h : AH} {a k : Nat} {n v : Int32} (z : Mr h a k n v) {m : Nat} (tr : TrO h m) (hm : m < 960) (x : Int32) : Con mX11_sighs 5 0 0 [.ref a, .int x] h (retH (some (.int ((51 :: (sigC k n v (x + 1)).1, (sigC k n v (x + 1)).2)).2)) (ranL h ((51 :: (sigC k n v (x + 1)).1, (sigC k n v (x + 1)).2)).1)) nox := by
  refine Con.of rfl rfl (Nat.le_of_ble_eq_true rfl) ?_
  refine s_aload_n 0 dX11_sighs_0 rfl rfl ?_
  refine s_getP dX11_sighs_1 fl_X11_13 (fo_M_0 z.mk) z.2.2.1 ?_
  refine s_bipush (v := 51) dX11_sighs_4 rfl ?_
  refine s_callV (M2 := mX4_ran) dX11_sighs_6 q1219 bX4_ran inX4_ran.2 q1202 rfl (c_ran _ _ tr.1 m (by omega) tr.2) rfl rfl (rk (wk_31 tr.1) rfl rfl) ⟨by decide, by decide, by decide⟩ (Nat.le_of_ble_eq_true rfl) (fun v1 h1 v1z => ?_) (fun _ _ z => z.elim)
  obtain ⟨rfl, rfl⟩ := v1z
  have tr1 := tr.ran 51
  have z1 := z.ran tr.1 [51]
  rw [ran1]
  rw [ran1] at tr1
  refine s_aload_n 0 dX11_sighs_9 rfl rfl ?_
  refine s_iload_n 1 dX11_sighs_10 rfl rfl ?_
  refine s_iconst (v := 1) dX11_sighs_11 rfl ?_
  refine s_iadd dX11_sighs_12 ?_
  refine s_callSU (M2 := mX8_sighs) dX11_sighs_13 q1245 q1753 q452 inX8_sighs ⟨rfl, by decide⟩ (c_sgC z1 tr1 (by omega) _) rfl rfl z1.ok ⟨by decide, by decide, by decide⟩ (Nat.le_of_ble_eq_true rfl) (fun v2 h2 v2z => ?_) (fun _ _ z => z.elim)
  obtain ⟨rfl, rfl⟩ := v2z
  exact s_ireturn .int dX11_sighs_16 rfl rfl ⟨rfl, rfl⟩
theorem c_sgT {h : AH} {a k : Nat} {n v : Int32} (z : Mr h a k n v) {m : Nat} (tr : TrO h m) (hm : m < 960) (x : Int32) : Con mX13_sighs 4 0 0 [.ref a, .int x] h (retH (some (.int ((70 :: ((sigM k n v x).1 ++ [10]), (sigM k n v x).2 + (2 + n))).2)) (ranL h ((70 :: ((sigM k n v x).1 ++ [10]), (sigM k n v x).2 + (2 + n))).1)) nox := by
  refine Con.of rfl rfl (Nat.le_of_ble_eq_true rfl) ?_
  refine s_aload_n 0 dX13_sighs_0 rfl rfl ?_
  refine s_getP dX13_sighs_1 fl_X13_23 (fo_M_0 z.mk) z.2.2.1 ?_
  refine s_bipush (v := 70) dX13_sighs_4 rfl ?_
  refine s_callV (M2 := mX4_ran) dX13_sighs_6 q1212 bX4_ran inX4_ran.2 q1202 rfl (c_ran _ _ tr.1 m (by omega) tr.2) rfl rfl (rk (wk_31 tr.1) rfl rfl) ⟨by decide, by decide, by decide⟩ (Nat.le_of_ble_eq_true rfl) (fun v1 h1 v1z => ?_) (fun _ _ z => z.elim)
  obtain ⟨rfl, rfl⟩ := v1z
  have tr1 := tr.ran 70
  have z1 := z.ran tr.1 [70]
  rw [ran1]
  rw [ran1] at tr1
  refine s_aload_n 0 dX13_sighs_9 rfl rfl ?_
  refine s_iload_n 1 dX13_sighs_10 rfl rfl ?_
  refine s_callSUU (M2 := mX7_sighs) dX13_sighs_11 "FuneralDebts$Weeper" q1239 q1240 q475 q442 inX7_sighs ⟨rfl, by decide⟩ (c_sgM z1 tr1 (by omega) _) rfl rfl z1.ok ⟨by decide, by decide, by decide⟩ (Nat.le_of_ble_eq_true rfl) (fun v2 h2 v2z => ?_) (fun _ _ z => z.elim)
  obtain ⟨rfl, rfl⟩ := v2z
  have z2 := z1.ran tr1.1 (sigM k n v x).1
  have tr2 := tr1.ranL (sigM k n v x).1 rfl
  have hl := sigM_n k n v x
  refine s_istore_n (ls' := [(2, _), (0, _), (1, _)]) 2 dX13_sighs_14 rfl (by decide) rfl ?_
  refine s_iload_n 2 dX13_sighs_15 rfl rfl ?_
  refine s_aload_n 0 dX13_sighs_16 rfl rfl ?_
  refine s_iconst (v := 2) dX13_sighs_17 rfl ?_
  refine s_callSUU (M2 := mX7_stands) dX13_sighs_18 "FuneralDebts$Weeper" q1213 q1214 q475 q442 inX7_stands ⟨rfl, by decide⟩ (c_st8 z2 tr2 (by omega) _) rfl rfl z2.ok ⟨by decide, by decide, by decide⟩ (Nat.le_of_ble_eq_true rfl) (fun v3 h3 v3z => ?_) (fun _ _ z => z.elim)
  obtain ⟨rfl, rfl⟩ := v3z
  refine s_iadd dX13_sighs_21 ?_
  exact s_ireturn .int dX13_sighs_22 rfl rfl ⟨rfl, by rw [ranL_app, ranL_app]; rfl⟩
theorem v_sighs {M : AMt} {d : Nat} {post : Option Value → AH → Prop} {px : Nat → AH → Prop} {rc rs pc idx : Nat} {ls : List (Nat × Value)} {st : List Value} {h : AH} {a k : Nat} {n v : Int32} (z : Mr h a k n v) {m : Nat} (tr : TrO h m) (hm : m < 950) (x : Int32) (hd : decode (mC M) pc = .ok (.invokevirtual idx, 3)) (q1 : Cond.methodLink (mY M).cls idx yX7_sighs ∈ lw_all) (hroom : 5 + 1 ≤ d) (hst : (st.map fun v => v.category).sum ≤ 12)
    (kk : AW M d post px rc rs (pc + 3) ls (.int (sig k n v x).2 :: st) (ranL h (sig k n v x).1)) : AW M d post px rc rs pc ls (.int x :: .ref a :: st) h := by
  obtain ⟨zk, z6, zr⟩ := z
  by_cases e0 : k = 0
  · subst e0
    exact s_callV (M2 := mX7_sighs) (as := [.int x]) hd q1 bX7_sighs inX7_sighs.2 q1225 rfl (c_sgM ⟨zk, z6, zr⟩ tr (by omega) x) rfl rfl (rk zk rfl rfl) ⟨by omega, by omega, by omega⟩ hst (fun v9 h9 z9 => by obtain ⟨rfl, rfl⟩ := z9; exact kk) (fun _ _ z9 => z9.elim)
  by_cases e1 : k = 1
  · subst e1
    exact s_callVU (M2 := mX8_sighs) (as := [.int x]) hd (x := yX7_sighs) "FuneralDebts$Mourner" q1 q1226 (Or.inr ⟨mX7_sighs, rfl, bX7_sighs.2.1, rfl, inX7_sighs.2⟩) ⟨by decide, by decide⟩ bX7_sighs.2.2.2.1 bX8_sighs inX8_sighs.2 q1228 rfl (c_sgC ⟨zk, z6, zr⟩ tr (by omega) x) rfl rfl (rk zk rfl rfl) ⟨by omega, by omega, by omega⟩ hst (fun v9 h9 z9 => by obtain ⟨rfl, rfl⟩ := z9; exact kk) (fun _ _ z9 => z9.elim)
  by_cases e2 : k = 2
  · subst e2
    exact s_callV (M2 := mX7_sighs) (as := [.int x]) hd q1 bX7_sighs inX7_sighs.2 q1235 rfl (c_sgM ⟨zk, z6, zr⟩ tr (by omega) x) rfl rfl (rk zk rfl rfl) ⟨by omega, by omega, by omega⟩ hst (fun v9 h9 z9 => by obtain ⟨rfl, rfl⟩ := z9; exact kk) (fun _ _ z9 => z9.elim)
  by_cases e3 : k = 3
  · subst e3
    exact s_callV (M2 := mX7_sighs) (as := [.int x]) hd q1 bX7_sighs inX7_sighs.2 q1246 rfl (c_sgM ⟨zk, z6, zr⟩ tr (by omega) x) rfl rfl (rk zk rfl rfl) ⟨by omega, by omega, by omega⟩ hst (fun v9 h9 z9 => by obtain ⟨rfl, rfl⟩ := z9; exact kk) (fun _ _ z9 => z9.elim)
  by_cases e4 : k = 4
  · subst e4
    exact s_callVU (M2 := mX11_sighs) (as := [.int x]) hd (x := yX7_sighs) "FuneralDebts$Mourner" q1 q1226 (Or.inr ⟨mX7_sighs, rfl, bX7_sighs.2.1, rfl, inX7_sighs.2⟩) ⟨by decide, by decide⟩ bX7_sighs.2.2.2.1 bX11_sighs inX11_sighs.2 q1242 rfl (c_sgV ⟨zk, z6, zr⟩ tr (by omega) x) rfl rfl (rk zk rfl rfl) ⟨by omega, by omega, by omega⟩ hst (fun v9 h9 z9 => by obtain ⟨rfl, rfl⟩ := z9; exact kk) (fun _ _ z9 => z9.elim)
  by_cases e5 : k = 5
  · subst e5
    exact s_callV (M2 := mX7_sighs) (as := [.int x]) hd q1 bX7_sighs inX7_sighs.2 q1227 rfl (c_sgM ⟨zk, z6, zr⟩ tr (by omega) x) rfl rfl (rk zk rfl rfl) ⟨by omega, by omega, by omega⟩ hst (fun v9 h9 z9 => by obtain ⟨rfl, rfl⟩ := z9; exact kk) (fun _ _ z9 => z9.elim)
  by_cases e6 : k = 6
  · subst e6
    exact s_callVU (M2 := mX13_sighs) (as := [.int x]) hd (x := yX7_sighs) "FuneralDebts$Mourner" q1 q1226 (Or.inr ⟨mX7_sighs, rfl, bX7_sighs.2.1, rfl, inX7_sighs.2⟩) ⟨by decide, by decide⟩ bX7_sighs.2.2.2.1 bX13_sighs inX13_sighs.2 q1236 rfl (c_sgT ⟨zk, z6, zr⟩ tr (by omega) x) rfl rfl (rk zk rfl rfl) ⟨by omega, by omega, by omega⟩ hst (fun v9 h9 z9 => by obtain ⟨rfl, rfl⟩ := z9; exact kk) (fun _ _ z9 => z9.elim)
  omega
theorem c_tlM {h : AH} {a k : Nat} {n v : Int32} (z : Mr h a k n v) {m : Nat} (tr : TrO h m) (hm : m < 940) (x : Int32) : Con mX7_tells 6 0 0 [.ref a, .int x] h (retH (some (.int (telM k n v x).2)) (ranL h (telM k n v x).1)) nox := by
  refine Con.of rfl rfl (Nat.le_of_ble_eq_true rfl) ?_
  refine s_aload_n 0 dX7_tells_0 rfl rfl ?_
  refine s_getP dX7_tells_1 fl_X7_7 (fo_M_0 z.mk) z.2.2.1 ?_
  refine s_bipush (v := 12) dX7_tells_4 rfl ?_
  refine s_callV (M2 := mX4_ran) dX7_tells_6 q1206 bX4_ran inX4_ran.2 q1202 rfl (c_ran _ _ tr.1 m (by omega) tr.2) rfl rfl (rk (wk_31 tr.1) rfl rfl) ⟨by decide, by decide, by decide⟩ (Nat.le_of_ble_eq_true rfl) (fun v1 h1 v1z => ?_) (fun _ _ z => z.elim)
  obtain ⟨rfl, rfl⟩ := v1z
  have tr1 := tr.ran 12
  have z1 := z.ran tr.1 [12]
  rw [ran1]
  rw [ran1] at tr1
  refine s_aload_n 0 dX7_tells_9 rfl rfl ?_
  refine s_iload_n 1 dX7_tells_10 rfl rfl ?_
  refine v_sighs z1 tr1 (by omega) _ dX7_tells_11 q1259 (by decide) (Nat.le_of_ble_eq_true rfl) ?_
  refine s_iconst (v := 2) dX7_tells_14 rfl ?_
  refine s_imul dX7_tells_15 ?_
  exact s_ireturn .int dX7_tells_16 rfl rfl ⟨rfl, rfl⟩
theorem v_sighsW {M : AMt} {d : Nat} {post : Option Value → AH → Prop} {px : Nat → AH → Prop} {rc rs pc idx : Nat} {ls : List (Nat × Value)} {st : List Value} {h : AH} {a k : Nat} {n v : Int32} (z : Mr h a k n v) {m : Nat} (tr : TrO h m) (h36 : k = 3 ∨ k = 6) (hm : m < 950) (x : Int32) (hd : decode (mC M) pc = .ok (.invokevirtual idx, 3)) (q1 : Cond.methodLink (mY M).cls idx ⟨"FuneralDebts$Weeper", "sighs", "(I)I"⟩ ∈ lw_all) (hroom : 5 + 1 ≤ d) (hst : (st.map fun v => v.category).sum ≤ 12)
    (kk : AW M d post px rc rs (pc + 3) ls (.int (sig k n v x).2 :: st) (ranL h (sig k n v x).1)) : AW M d post px rc rs pc ls (.int x :: .ref a :: st) h := by
  obtain ⟨zk, z6, zr⟩ := z
  rcases h36 with rfl | rfl
  · exact s_callVU (M2 := mX7_sighs) (as := [.int x]) hd (x := ⟨"FuneralDebts$Weeper", "sighs", "(I)I"⟩) "FuneralDebts$Mourner" q1 q1240 (Or.inr ⟨mX7_sighs, rfl, bX7_sighs.2.1, rfl, inX7_sighs.2⟩) ⟨by decide, by decide⟩ bX7_sighs.2.2.2.1 bX7_sighs inX7_sighs.2 q1269 rfl (c_sgM ⟨zk, z6, zr⟩ tr (by omega) x) rfl rfl (rk zk rfl rfl) ⟨by omega, by omega, by omega⟩ hst (fun v9 h9 z9 => by obtain ⟨rfl, rfl⟩ := z9; exact kk) (fun _ _ z9 => z9.elim)
  · exact s_callVU (M2 := mX13_sighs) (as := [.int x]) hd (x := ⟨"FuneralDebts$Weeper", "sighs", "(I)I"⟩) "FuneralDebts$Mourner" q1 q1240 (Or.inr ⟨mX7_sighs, rfl, bX7_sighs.2.1, rfl, inX7_sighs.2⟩) ⟨by decide, by decide⟩ bX7_sighs.2.2.2.1 bX13_sighs inX13_sighs.2 q1268 rfl (c_sgT ⟨zk, z6, zr⟩ tr (by omega) x) rfl rfl (rk zk rfl rfl) ⟨by omega, by omega, by omega⟩ hst (fun v9 h9 z9 => by obtain ⟨rfl, rfl⟩ := z9; exact kk) (fun _ _ z9 => z9.elim)
theorem c_tlW {h : AH} {a k : Nat} {n v : Int32} (z : Mr h a k n v) {m : Nat} (tr : TrO h m) (hm : m < 930) (h36 : k = 3 ∨ k = 6) (x : Int32) : Con mX10_tells 7 0 0 [.ref a, .int x] h (retH (some (.int (telW k n v x).2)) (ranL h (telW k n v x).1)) nox := by
  refine Con.of rfl rfl (Nat.le_of_ble_eq_true rfl) ?_
  refine s_aload_n 0 dX10_tells_0 rfl rfl ?_
  refine s_getP dX10_tells_1 fl_X10_13 (fo_M_0 z.mk) z.2.2.1 ?_
  refine s_bipush (v := 40) dX10_tells_4 rfl ?_
  refine s_callV (M2 := mX4_ran) dX10_tells_6 q1265 bX4_ran inX4_ran.2 q1202 rfl (c_ran _ _ tr.1 m (by omega) tr.2) rfl rfl (rk (wk_31 tr.1) rfl rfl) ⟨by decide, by decide, by decide⟩ (Nat.le_of_ble_eq_true rfl) (fun v1 h1 v1z => ?_) (fun _ _ z => z.elim)
  obtain ⟨rfl, rfl⟩ := v1z
  have tr1 := tr.ran 40
  have z1 := z.ran tr.1 [40]
  rw [ran1]
  rw [ran1] at tr1
  refine s_aload_n 0 dX10_tells_9 rfl rfl ?_
  refine s_iload_n 1 dX10_tells_10 rfl rfl ?_
  refine s_callSU (M2 := mX7_tells) dX10_tells_11 q1266 q1250 q442 inX7_tells ⟨rfl, by decide⟩ (c_tlM z1 tr1 (by omega) _) rfl rfl z1.ok ⟨by decide, by decide, by decide⟩ (Nat.le_of_ble_eq_true rfl) (fun v2 h2 v2z => ?_) (fun _ _ z => z.elim)
  obtain ⟨rfl, rfl⟩ := v2z
  have z2 := z1.ran tr1.1 (telM k n v x).1
  have tr2 := tr1.ranL (telM k n v x).1 rfl
  have hl := telM_n k n v x
  refine s_istore_n (ls' := [(2, _), (0, _), (1, _)]) 2 dX10_tells_14 rfl (by decide) rfl ?_
  refine s_iload_n 2 dX10_tells_15 rfl rfl ?_
  refine s_aload_n 0 dX10_tells_16 rfl rfl ?_
  refine s_iconst (v := 1) dX10_tells_17 rfl ?_
  refine v_sighsW z2 tr2 h36 (by omega) _ dX10_tells_18 q1267 (by decide) (Nat.le_of_ble_eq_true rfl) ?_
  refine s_iadd dX10_tells_21 ?_
  exact s_ireturn .int dX10_tells_22 rfl rfl ⟨rfl, by rw [ranL_app, ranL_app]; rfl⟩
theorem c_tlB {h : AH} {a k : Nat} {n v : Int32} (z : Mr h a k n v) {m : Nat} (tr : TrO h m) (hm : m < 930) (x : Int32) : Con mX12_tells 7 0 0 [.ref a, .int x] h (retH (some (.int ((60 :: (telM k n v (x - n)).1, (telM k n v (x - n)).2)).2)) (ranL h ((60 :: (telM k n v (x - n)).1, (telM k n v (x - n)).2)).1)) nox := by
  refine Con.of rfl rfl (Nat.le_of_ble_eq_true rfl) ?_
  refine s_aload_n 0 dX12_tells_0 rfl rfl ?_
  refine s_getP dX12_tells_1 fl_X12_13 (fo_M_0 z.mk) z.2.2.1 ?_
  refine s_bipush (v := 60) dX12_tells_4 rfl ?_
  refine s_callV (M2 := mX4_ran) dX12_tells_6 q1254 bX4_ran inX4_ran.2 q1202 rfl (c_ran _ _ tr.1 m (by omega) tr.2) rfl rfl (rk (wk_31 tr.1) rfl rfl) ⟨by decide, by decide, by decide⟩ (Nat.le_of_ble_eq_true rfl) (fun v1 h1 v1z => ?_) (fun _ _ z => z.elim)
  obtain ⟨rfl, rfl⟩ := v1z
  have tr1 := tr.ran 60
  have z1 := z.ran tr.1 [60]
  rw [ran1]
  rw [ran1] at tr1
  refine s_aload_n 0 dX12_tells_9 rfl rfl ?_
  refine s_iload_n 1 dX12_tells_10 rfl rfl ?_
  refine s_aload_n 0 dX12_tells_11 rfl rfl ?_
  refine s_getI dX12_tells_12 fl_X12_25 (fo_M_1 z1.mk) ?_
  rw [z1.2.2.2.1]
  refine s_isub dX12_tells_15 ?_
  refine s_callSUU (M2 := mX7_tells) dX12_tells_16 "FuneralDebts$Creditor" q1255 q1256 q462 q432 inX7_tells ⟨rfl, by decide⟩ (c_tlM z1 tr1 (by omega) _) rfl rfl z1.ok ⟨by decide, by decide, by decide⟩ (Nat.le_of_ble_eq_true rfl) (fun v2 h2 v2z => ?_) (fun _ _ z => z.elim)
  obtain ⟨rfl, rfl⟩ := v2z
  exact s_ireturn .int dX12_tells_19 rfl rfl ⟨rfl, rfl⟩
theorem v_tells {M : AMt} {d : Nat} {post : Option Value → AH → Prop} {px : Nat → AH → Prop} {rc rs pc idx : Nat} {ls : List (Nat × Value)} {st : List Value} {h : AH} {a k : Nat} {n v : Int32} (z : Mr h a k n v) {m : Nat} (tr : TrO h m) (hm : m < 920) (x : Int32) (hd : decode (mC M) pc = .ok (.invokevirtual idx, 3)) (q1 : Cond.methodLink (mY M).cls idx yX7_tells ∈ lw_all) (hroom : 7 + 1 ≤ d) (hst : (st.map fun v => v.category).sum ≤ 12)
    (kk : AW M d post px rc rs (pc + 3) ls (.int (tel k n v x).2 :: st) (ranL h (tel k n v x).1)) : AW M d post px rc rs pc ls (.int x :: .ref a :: st) h := by
  obtain ⟨zk, z6, zr⟩ := z
  by_cases e0 : k = 0
  · subst e0
    exact s_callV (M2 := mX7_tells) (as := [.int x]) hd q1 bX7_tells inX7_tells.2 q1249 rfl (c_tlM ⟨zk, z6, zr⟩ tr (by omega) x) rfl rfl (rk zk rfl rfl) ⟨by omega, by omega, by omega⟩ hst (fun v9 h9 z9 => by obtain ⟨rfl, rfl⟩ := z9; exact kk) (fun _ _ z9 => z9.elim)
  by_cases e1 : k = 1
  · subst e1
    exact s_callV (M2 := mX7_tells) (as := [.int x]) hd q1 bX7_tells inX7_tells.2 q1260 rfl (c_tlM ⟨zk, z6, zr⟩ tr (by omega) x) rfl rfl (rk zk rfl rfl) ⟨by omega, by omega, by omega⟩ hst (fun v9 h9 z9 => by obtain ⟨rfl, rfl⟩ := z9; exact kk) (fun _ _ z9 => z9.elim)
  by_cases e2 : k = 2
  · subst e2
    exact s_callV (M2 := mX7_tells) (as := [.int x]) hd q1 bX7_tells inX7_tells.2 q1261 rfl (c_tlM ⟨zk, z6, zr⟩ tr (by omega) x) rfl rfl (rk zk rfl rfl) ⟨by omega, by omega, by omega⟩ hst (fun v9 h9 z9 => by obtain ⟨rfl, rfl⟩ := z9; exact kk) (fun _ _ z9 => z9.elim)
  by_cases e3 : k = 3
  · subst e3
    exact s_callVU (M2 := mX10_tells) (as := [.int x]) hd (x := yX7_tells) "FuneralDebts$Mourner" q1 q1250 (Or.inr ⟨mX7_tells, rfl, bX7_tells.2.1, rfl, inX7_tells.2⟩) ⟨by decide, by decide⟩ bX7_tells.2.2.2.1 bX10_tells inX10_tells.2 q1271 rfl (c_tlW ⟨zk, z6, zr⟩ tr (by omega) (by decide) x) rfl rfl (rk zk rfl rfl) ⟨by omega, by omega, by omega⟩ hst (fun v9 h9 z9 => by obtain ⟨rfl, rfl⟩ := z9; exact kk) (fun _ _ z9 => z9.elim)
  by_cases e4 : k = 4
  · subst e4
    exact s_callV (M2 := mX7_tells) (as := [.int x]) hd q1 bX7_tells inX7_tells.2 q1270 rfl (c_tlM ⟨zk, z6, zr⟩ tr (by omega) x) rfl rfl (rk zk rfl rfl) ⟨by omega, by omega, by omega⟩ hst (fun v9 h9 z9 => by obtain ⟨rfl, rfl⟩ := z9; exact kk) (fun _ _ z9 => z9.elim)
  by_cases e5 : k = 5
  · subst e5
    exact s_callVU (M2 := mX12_tells) (as := [.int x]) hd (x := yX7_tells) "FuneralDebts$Mourner" q1 q1250 (Or.inr ⟨mX7_tells, rfl, bX7_tells.2.1, rfl, inX7_tells.2⟩) ⟨by decide, by decide⟩ bX7_tells.2.2.2.1 bX12_tells inX12_tells.2 q1251 rfl (c_tlB ⟨zk, z6, zr⟩ tr (by omega) x) rfl rfl (rk zk rfl rfl) ⟨by omega, by omega, by omega⟩ hst (fun v9 h9 z9 => by obtain ⟨rfl, rfl⟩ := z9; exact kk) (fun _ _ z9 => z9.elim)
  by_cases e6 : k = 6
  · subst e6
    exact s_callVU (M2 := mX10_tells) (as := [.int x]) hd (x := yX7_tells) "FuneralDebts$Mourner" q1 q1250 (Or.inr ⟨mX7_tells, rfl, bX7_tells.2.1, rfl, inX7_tells.2⟩) ⟨by decide, by decide⟩ bX7_tells.2.2.2.1 bX10_tells inX10_tells.2 q1262 rfl (c_tlW ⟨zk, z6, zr⟩ tr (by omega) (by decide) x) rfl rfl (rk zk rfl rfl) ⟨by omega, by omega, by omega⟩ hst (fun v9 h9 z9 => by obtain ⟨rfl, rfl⟩ := z9; exact kk) (fun _ _ z9 => z9.elim)
  omega
theorem v_kind {M : AMt} {d : Nat} {post : Option Value → AH → Prop} {px : Nat → AH → Prop} {rc rs pc idx : Nat} {ls : List (Nat × Value)} {st : List Value} {h : AH} {a k : Nat} (zk : hK h a = 8 + k) (z6 : k ≤ 6) (hd : decode (mC M) pc = .ok (.invokevirtual idx, 3)) (q1 : Cond.methodLink (mY M).cls idx yX7_kind ∈ lw_all) (hroom : 1 ≤ d) (hst : (st.map fun v => v.category).sum ≤ 12)
    (kk : AW M d post px rc rs (pc + 3) ls (.int (nI k) :: st) h) : AW M d post px rc rs pc ls (.ref a :: st) h := by
  by_cases e0 : k = 0
  · subst e0
    exact s_callV (M2 := mX7_kind) (as := []) hd q1 bX7_kind inX7_kind.2 q507 rfl (c_kind8 a h) rfl rfl (rk zk rfl rfl) ⟨by omega, by omega, by omega⟩ hst (fun v9 h9 z9 => by obtain ⟨rfl, rfl⟩ := z9; exact kk) (fun _ _ z9 => z9.elim)
  by_cases e1 : k = 1
  · subst e1
    exact s_callVU (M2 := mX8_kind) (as := []) hd (x := yX7_kind) "FuneralDebts$Mourner" q1 q508 (Or.inr ⟨mX7_kind, rfl, bX7_kind.2.1, rfl, inX7_kind.2⟩) ⟨by decide, by decide⟩ bX7_kind.2.2.2.1 bX8_kind inX8_kind.2 q512 rfl (c_kind9 a h) rfl rfl (rk zk rfl rfl) ⟨by omega, by omega, by omega⟩ hst (fun v9 h9 z9 => by obtain ⟨rfl, rfl⟩ := z9; exact kk) (fun _ _ z9 => z9.elim)
  by_cases e2 : k = 2
  · subst e2
    exact s_callVU (M2 := mX9_kind) (as := []) hd (x := yX7_kind) "FuneralDebts$Mourner" q1 q508 (Or.inr ⟨mX7_kind, rfl, bX7_kind.2.1, rfl, inX7_kind.2⟩) ⟨by decide, by decide⟩ bX7_kind.2.2.2.1 bX9_kind inX9_kind.2 q515 rfl (c_kind10 a h) rfl rfl (rk zk rfl rfl) ⟨by omega, by omega, by omega⟩ hst (fun v9 h9 z9 => by obtain ⟨rfl, rfl⟩ := z9; exact kk) (fun _ _ z9 => z9.elim)
  by_cases e3 : k = 3
  · subst e3
    exact s_callVU (M2 := mX10_kind) (as := []) hd (x := yX7_kind) "FuneralDebts$Mourner" q1 q508 (Or.inr ⟨mX7_kind, rfl, bX7_kind.2.1, rfl, inX7_kind.2⟩) ⟨by decide, by decide⟩ bX7_kind.2.2.2.1 bX10_kind inX10_kind.2 q524 rfl (c_kind11 a h) rfl rfl (rk zk rfl rfl) ⟨by omega, by omega, by omega⟩ hst (fun v9 h9 z9 => by obtain ⟨rfl, rfl⟩ := z9; exact kk) (fun _ _ z9 => z9.elim)
  by_cases e4 : k = 4
  · subst e4
    exact s_callVU (M2 := mX11_kind) (as := []) hd (x := yX7_kind) "FuneralDebts$Mourner" q1 q508 (Or.inr ⟨mX7_kind, rfl, bX7_kind.2.1, rfl, inX7_kind.2⟩) ⟨by decide, by decide⟩ bX7_kind.2.2.2.1 bX11_kind inX11_kind.2 q521 rfl (c_kind12 a h) rfl rfl (rk zk rfl rfl) ⟨by omega, by omega, by omega⟩ hst (fun v9 h9 z9 => by obtain ⟨rfl, rfl⟩ := z9; exact kk) (fun _ _ z9 => z9.elim)
  by_cases e5 : k = 5
  · subst e5
    exact s_callVU (M2 := mX12_kind) (as := []) hd (x := yX7_kind) "FuneralDebts$Mourner" q1 q508 (Or.inr ⟨mX7_kind, rfl, bX7_kind.2.1, rfl, inX7_kind.2⟩) ⟨by decide, by decide⟩ bX7_kind.2.2.2.1 bX12_kind inX12_kind.2 q509 rfl (c_kind13 a h) rfl rfl (rk zk rfl rfl) ⟨by omega, by omega, by omega⟩ hst (fun v9 h9 z9 => by obtain ⟨rfl, rfl⟩ := z9; exact kk) (fun _ _ z9 => z9.elim)
  by_cases e6 : k = 6
  · subst e6
    exact s_callVU (M2 := mX13_kind) (as := []) hd (x := yX7_kind) "FuneralDebts$Mourner" q1 q508 (Or.inr ⟨mX7_kind, rfl, bX7_kind.2.1, rfl, inX7_kind.2⟩) ⟨by decide, by decide⟩ bX7_kind.2.2.2.1 bX13_kind inX13_kind.2 q518 rfl (c_kind14 a h) rfl rfl (rk zk rfl rfl) ⟨by omega, by omega, by omega⟩ hst (fun v9 h9 z9 => by obtain ⟨rfl, rfl⟩ := z9; exact kk) (fun _ _ z9 => z9.elim)
  omega
theorem rtE_W (s y r : Int32) : (if y < 5 then s else 1) + r = rtW s y + r := rfl
/-- the part of its row that a mourner of the last kind adds -/
def rwE (h : AH) (n y : Nat) : Int32 := hI h 18 (4 * n + y % 4)
theorem v_rates {M : AMt} {d : Nat} {post : Option Value → AH → Prop} {px : Nat → AH → Prop} {rc rs pc idx : Nat} {ls : List (Nat × Value)} {st : List Value} {h : AH} {a k : Nat} (w : WF h) {n : Nat} {v : Int32} (z : Mr h a k (nI n) v) (hn6 : n < 6) (hp : k = 6 → hP h a 3 = 18) (sum : Int32) (y : Nat) (hy : y < 10) (day : Int32) (hd : decode (mC M) pc = .ok (.invokevirtual idx, 3)) (q1 : Cond.methodLink (mY M).cls idx yX7_rates ∈ lw_all) (hroom : 3 ≤ d) (hst : (st.map fun v => v.category).sum ≤ 12)
    (kk : AW M d post px rc rs (pc + 3) ls (.int (rtE k v sum (nI y) day (rwE h n y)) :: st) h) : AW M d post px rc rs pc ls (.int day :: .int (nI y) :: .int sum :: .ref a :: st) h := by
  have hm := z.mk
  have hv := z.2.2.2.2
  have hn := z.2.2.2.1
  obtain ⟨zk, z6, zr⟩ := z
  subst hv
  by_cases e0 : k = 0
  · subst e0
    exact s_callV (M2 := mX7_rates) (as := [.int sum, .int (nI y), .int day]) hd q1 bX7_rates inX7_rates.2 q574 rfl (c_rt8 sum (nI y) day) rfl rfl (rk zk rfl rfl) ⟨by omega, by omega, by omega⟩ hst (fun v9 h9 z9 => by obtain ⟨rfl, rfl⟩ := z9; exact kk) (fun _ _ z9 => z9.elim)
  by_cases e1 : k = 1
  · subst e1
    exact s_callVU (M2 := mX8_rates) (as := [.int sum, .int (nI y), .int day]) hd (x := yX7_rates) "FuneralDebts$Mourner" q1 q575 (Or.inr ⟨mX7_rates, rfl, bX7_rates.2.1, rfl, inX7_rates.2⟩) ⟨by decide, by decide⟩ bX7_rates.2.2.2.1 bX8_rates inX8_rates.2 q584 rfl (c_rt9 hm sum (nI y) day) rfl rfl (rk zk rfl rfl) ⟨by omega, by omega, by omega⟩ hst (fun v9 h9 z9 => by obtain ⟨rfl, rfl⟩ := z9; exact kk) (fun _ _ z9 => z9.elim)
  by_cases e2 : k = 2
  · subst e2
    exact s_callVU (M2 := mX9_rates) (as := [.int sum, .int (nI y), .int day]) hd (x := yX7_rates) "FuneralDebts$Mourner" q1 q575 (Or.inr ⟨mX7_rates, rfl, bX7_rates.2.1, rfl, inX7_rates.2⟩) ⟨by decide, by decide⟩ bX7_rates.2.2.2.1 bX9_rates inX9_rates.2 q588 rfl (c_rt10 hm sum (nI y) day) rfl rfl (rk zk rfl rfl) ⟨by omega, by omega, by omega⟩ hst (fun v9 h9 z9 => by obtain ⟨rfl, rfl⟩ := z9; exact kk) (fun _ _ z9 => z9.elim)
  by_cases e3 : k = 3
  · subst e3
    exact s_callVU (M2 := mX10_rates) (as := [.int sum, .int (nI y), .int day]) hd (x := yX7_rates) "FuneralDebts$Mourner" q1 q575 (Or.inr ⟨mX7_rates, rfl, bX7_rates.2.1, rfl, inX7_rates.2⟩) ⟨by decide, by decide⟩ bX7_rates.2.2.2.1 bX10_rates inX10_rates.2 q600 rfl (c_rt11 hm sum (nI y) day) rfl rfl (rk zk rfl rfl) ⟨by omega, by omega, by omega⟩ hst (fun v9 h9 z9 => by obtain ⟨rfl, rfl⟩ := z9; exact kk) (fun _ _ z9 => z9.elim)
  by_cases e4 : k = 4
  · subst e4
    exact s_callVU (M2 := mX11_rates) (as := [.int sum, .int (nI y), .int day]) hd (x := yX7_rates) "FuneralDebts$Mourner" q1 q575 (Or.inr ⟨mX7_rates, rfl, bX7_rates.2.1, rfl, inX7_rates.2⟩) ⟨by decide, by decide⟩ bX7_rates.2.2.2.1 bX11_rates inX11_rates.2 q596 rfl (c_rt12 hm sum (nI y) day) rfl rfl (rk zk rfl rfl) ⟨by omega, by omega, by omega⟩ hst (fun v9 h9 z9 => by obtain ⟨rfl, rfl⟩ := z9; exact kk) (fun _ _ z9 => z9.elim)
  by_cases e5 : k = 5
  · subst e5
    exact s_callVU (M2 := mX12_rates) (as := [.int sum, .int (nI y), .int day]) hd (x := yX7_rates) "FuneralDebts$Mourner" q1 q575 (Or.inr ⟨mX7_rates, rfl, bX7_rates.2.1, rfl, inX7_rates.2⟩) ⟨by decide, by decide⟩ bX7_rates.2.2.2.1 bX12_rates inX12_rates.2 q576 rfl (c_rt13 hm sum (nI y) day) rfl rfl (rk zk rfl rfl) ⟨by omega, by omega, by omega⟩ hst (fun v9 h9 z9 => by obtain ⟨rfl, rfl⟩ := z9; exact kk) (fun _ _ z9 => z9.elim)
  by_cases e6 : k = 6
  · subst e6
    exact s_callVU (M2 := mX13_rates) (as := [.int sum, .int (nI y), .int day]) hd (x := yX7_rates) "FuneralDebts$Mourner" q1 q575 (Or.inr ⟨mX7_rates, rfl, bX7_rates.2.1, rfl, inX7_rates.2⟩) ⟨by decide, by decide⟩ bX7_rates.2.2.2.1 bX13_rates inX13_rates.2 q589 rfl (c_rt14 w zk (hp rfl) sum n y hn hn6 hy day) rfl rfl (rk zk rfl rfl) ⟨by omega, by omega, by omega⟩ hst (fun v9 h9 z9 => by obtain ⟨rfl, rfl⟩ := z9; exact kk) (fun _ _ z9 => z9.elim)
  omega
