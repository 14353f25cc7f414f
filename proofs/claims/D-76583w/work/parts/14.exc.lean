/-! AW: throws that go on or are caught; static fields; arraycopy; texts and class objects -/
set_option maxRecDepth 100000
section RX
variable {M : AMt} {d : Nat} {post : Option Value → AH → Prop} {px : Nat → AH → Prop} {rc rs pc idx : Nat} {ls : List (Nat × Value)} {st : List Value} {h : AH}
theorem x_out {a : Nat} (hout : (tableOf (mH M)).all (fun x => !covers x pc) = true) (hp : px a h) : AWX M d post px rc rs pc ls a h := by
  intro g p l e R s m args below meth c mc ms F H locs cells slots lsA rest hR hL hl hc hs h16 h0 h9
  have hA : AK g s := F.2.2.2.2.2.2.2.2.2.2.2
  obtain ⟨cell, c1, c2, c3, -⟩ := hR.cell h0 (by omega)
  obtain ⟨q, e1⟩ := acl_some h9
  obtain ⟨-, hfc, -⟩ := hA.kn.1 _ _ e1
  have hfc' : s.vm.findClass (knm (hK h a)) = some cell.cls := by rw [acl_nm e1, c2]; exact hfc
  refine vx_out (E := knm (hK h a)) (fun x hx => ?_) F.2.2.2.2.2.2.2.2.1 c1 c3 hfc' (fun t ht _ => ⟨a, h, rfl, h16, hp, by rw [ht]; exact hR, h0, h9, rfl⟩) hL (by omega) (by omega)
  rw [F.2.2.2.2.1] at hx
  have h5 := List.all_eq_true.mp hout x hx
  cases hcv : covers x pc with
  | false => rfl
  | true => rw [hcv] at h5; cases h5
/-- a row of the table doesn't take a thing of kind kk thrown at pc -/
def Ps (M : AMt) (pc kk : Nat) (z : ExceptionTableEntry) : Prop := covers z pc = false ∨ (z.catchType ≠ 0 ∧ ∃ nm : String, Cond.classLink (mY M).cls z.catchType nm ∈ lw_all ∧ Nca kk nm)
theorem x_outP {a : Nat} (hpass : ∀ z ∈ tableOf (mH M), Ps M pc (hK h a) z) (hp : px a h) : AWX M d post px rc rs pc ls a h := by
  intro g p l e R s m args below meth c mc ms F H locs cells slots lsA rest hR hL hl hc hs h16 h0 h9
  have hA : AK g s := F.2.2.2.2.2.2.2.2.2.2.2
  have hts := F.2.2.2.2.2.2.1
  obtain ⟨cell, c1, c2, c3, -⟩ := hR.cell h0 (by omega)
  obtain ⟨q, e1⟩ := acl_some h9
  obtain ⟨-, hfc, -⟩ := hA.kn.1 _ _ e1
  have hfc' : s.vm.findClass (knm (hK h a)) = some cell.cls := by rw [acl_nm e1, c2]; exact hfc
  have hkn : kname (hK h a) = knm (hK h a) := by unfold kname; rw [if_pos (by omega)]
  refine vx_outP (E := knm (hK h a)) F.2.2.2.2.2.1 F.2.2.2.2.2.2.2.2.1 (fun x hx => ?_) c1 c3 hfc' (fun t ht _ => ⟨a, h, rfl, h16, hp, by rw [ht]; exact hR, h0, h9, rfl⟩) hL (by omega) (by omega)
  rw [F.2.2.2.2.1] at hx
  rcases hpass x hx with z | ⟨z1, nm, z2, z3⟩
  · exact Or.inl z
  · refine Or.inr ⟨z1, nm, hts _ z2, ?_⟩
    have := hA.nc z3
    rw [hkn] at this
    exact this
theorem x_catch {a : Nat} (pre : List ExceptionTableEntry) (x : ExceptionTableEntry) (suf : List ExceptionTableEntry) (name : String) (tgt : Nat) (hsplit : tableOf (mH M) = pre ++ x :: suf) (hpass : ∀ z ∈ pre, Ps M pc (hK h a) z) (hx : covers x pc = true) (h00 : x.catchType ≠ 0) (hlink : Cond.classLink (mY M).cls x.catchType name ∈ lw_all) (hcast : Cond.castable (knm (hK h a)) name ∈ lw_tbl) (htgt : x.handlerPc = tgt)
    (k : AW M d post px rc rs tgt ls [.ref a] h) : AWX M d post px rc rs pc ls a h := by
  intro g p l e R s m args below meth c mc ms F H locs cells slots lsA rest hR hL hl hc hs h16 h0 h9
  subst htgt
  have hA : AK g s := F.2.2.2.2.2.2.2.2.2.2.2
  have hts := F.2.2.2.2.2.2.1
  obtain ⟨cell, c1, c2, c3, -⟩ := hR.cell h0 (by omega)
  obtain ⟨q, e1⟩ := acl_some h9
  obtain ⟨-, hfc, -⟩ := hA.kn.1 _ _ e1
  have hfc' : s.vm.findClass (knm (hK h a)) = some cell.cls := by rw [acl_nm e1, c2]; exact hfc
  have hkn : kname (hK h a) = knm (hK h a) := by unfold kname; rw [if_pos (by omega)]
  have K := k g p l e R s m args below meth c mc ms F H locs cells slots lsA hR hL hl hc hs
  rw [List.map_cons, tv_p g (by omega)] at K
  refine vx_catch (own := (mY M).cls) (name := name) (E := knm (hK h a)) F.2.2.2.2.2.1 pre x suf (by rw [F.2.2.2.2.1]; exact hsplit) (fun z hz => ?_) hx h00 (hts _ hlink) (va_Nw.use rfl (hA.castable hcast)) c1 c3 hfc' K
  rcases hpass z hz with y | ⟨z1, nm, z2, z3⟩
  · exact Or.inl y
  · refine Or.inr ⟨z1, nm, hts _ z2, ?_⟩
    have := hA.nc z3
    rw [hkn] at this
    exact this
/-- a static field that nobody writes -/
theorem s_gets {C n ds : String} {v : Value} (hd : decode (mC M) pc = .ok (.getstatic idx, 3)) (q1 : Cond.fieldLink (mY M).cls idx C n ds ∈ lw_all) (hZ : ∀ g : AG, AK0 g → va_Z C n ds (tv g v) (fun q => gB g ≤ q) (gU g) (gU g).heap) (k : AW M d post px rc rs (pc + 3) ls (v :: st) h) : AW M d post px rc rs pc ls st h := by
  intro g p l e R s m args below meth c mc ms F H locs cells slots lsA hR hL hl hc hs
  have hA : AK g s := F.2.2.2.2.2.2.2.2.2.2.2
  have hts := F.2.2.2.2.2.2.1
  have h1 : va_Z C n ds (tv g v) (fun q => gB g ≤ q) s (gU g).heap := va_Z.moved hA.2.alike (hZ g hA.1)
  obtain ⟨cf, kf, fi, f, a, cell, z1, z2, z3, z4, z5, z6, z7, z8⟩ := h1
  have ha : a < gB g := Nat.lt_of_not_le z8
  exact W.gets F.1 F.2.2.1 F.2.2.2.2.2.1 (hts _ q1) z1 z2 z3 z4 (by rw [hR.2.1 a ha]; exact z5) (fun y => by rw [y] at z6; cases z6) z7 rfl hd (k g p l e R s m args below meth c mc ms F H locs cells slots lsA hR hL hl hc hs)
theorem s_getsNull {C n ds : String} {v : Value} (hd : decode (mC M) pc = .ok (.getstatic idx, 3)) (hC : (mY M).cls = C) (q1 : Cond.fieldLink (mY M).cls idx C n ds ∈ lw_all) (hZ : ∀ g : AG, AK0 g → va_Z C n ds (tv g v) (fun q => gB g ≤ q) (gU g) (gU g).heap) (k : AW M d post px rc rs (pc + 3) ls (v :: st) h) : AW M d post px rc rs pc ls st h := s_gets hd q1 hZ k
theorem s_ldcS {tx : String} {a : Nat} (hd : decode (mC M) pc = .ok (.ldc idx, 2)) (ha : a ≠ 0 ∧ a < 16) (hZ : ∀ g : AG, AK0 g → vk_R (mY M).cls idx tx (gsp g a) (gU g)) (k : AW M d post px rc rs (pc + 2) ls (.ref a :: st) h) : AW M d post px rc rs pc ls st h := by
  intro g p l e R s m args below meth c mc ms F H locs cells slots lsA hR hL hl hc hs
  have hA : AK g s := F.2.2.2.2.2.2.2.2.2.2.2
  have K := k g p l e R s m args below meth c mc ms F H locs cells slots lsA hR hL hl hc hs
  rw [List.map_cons, tv_p g ha.1, ad_lo g ha.2] at K
  exact va_ldcS F.1 F.2.2.1 F.2.2.2.2.2.1 (vk_R.warm hA.2 (hZ g hA.1)) hd K
theorem s_ldcM (hd : decode (mC M) pc = .ok (.ldc idx, 2)) (q1 : Cond.classLink (mY M).cls idx "[Ljava/lang/Object;" ∈ lw_all) (k : AW M d post px rc rs (pc + 2) ls (.ref 9 :: st) h) : AW M d post px rc rs pc ls st h := by
  intro g p l e R s m args below meth c mc ms F H locs cells slots lsA hR hL hl hc hs
  have hA : AK g s := F.2.2.2.2.2.2.2.2.2.2.2
  have hts := F.2.2.2.2.2.2.1
  exact va_ldcM F.1 F.2.2.1 F.2.2.2.2.2.1 (hts _ q1) (va_Mi.moved hA.2.alike hA.1.2.2.2.2.2.2.2.2.2.2) hd (k g p l e R s m args below meth c mc ms F H locs cells slots lsA hR hL hl hc hs)
theorem s_getC {a : Nat} (hd : decode (mC M) pc = .ok (.invokevirtual idx, 3)) (q1 : Cond.methodLink (mY M).cls idx ⟨"java/lang/Object", "getClass", "()Ljava/lang/Class;"⟩ ∈ lw_all) (hk : hK h a = 108) (hd1 : 1 ≤ d) (hst : (st.map fun v => v.category).sum ≤ 20) (k : AW M d post px rc rs (pc + 3) ls (.ref 9 :: st) h) : AW M d post px rc rs pc ls (.ref a :: st) h := by
  intro g p l e R s m args below meth c mc ms F H locs cells slots lsA hR hL hl hc hs
  have hA : AK g s := F.2.2.2.2.2.2.2.2.2.2.2
  have hts := F.2.2.2.2.2.2.1
  have hRm : R = arm d mc ms := F.2.2.2.2.2.2.2.2.2.2.1
  have h0 : a ≠ 0 := by have := (hR.2.2.1 a (by omega)).1; omega
  have hrv := recvK hA hR (a := a) (by rw [hk]; rfl)
  rw [hk] at hrv
  have hdec : (Cond.declares ⟨"java/lang/Object", "getClass", "()Ljava/lang/Class;"⟩).before args s = true := va_Nw.use rfl (hA.decl q1798)
  rw [List.map_cons, tv_p g h0]
  exact va_getC (C := "[Ljava/lang/Object;") F.1 F.2.2.1 (F.2.2.2.1.trans hl.1.symm) F.2.2.2.2.2.1 (hts _ q1) hdec (hts _ q1797) (hts _ q986) (hts _ q1014) (va_Mi.moved hA.2.alike hA.1.2.2.2.2.2.2.2.2.2.2) hrv (by rw [hRm]; exact hd1) (by rw [hRm, tv_lst]; show _ + 14 ≤ 40 * d; omega) hd (k g p l e R s m args below meth c mc ms F H locs cells slots lsA hR hL hl hc hs)
theorem sp_slots (at_ : Nat) : ∀ (vs : List (Value × Nat)) (c c' : Cell), c.slots = c'.slots → (c.storePairs at_ vs).slots = (c'.storePairs at_ vs).slots
  | [], c, c', h => h
  | x :: xs, c, c', h => by
    show ((c.setSlot (at_ + x.2) x.1).storePairs at_ xs).slots = ((c'.setSlot (at_ + x.2) x.1).storePairs at_ xs).slots
    refine sp_slots at_ xs _ _ ?_
    show c.slots.setIfInBounds (at_ + x.2) x.1 = c'.slots.setIfInBounds (at_ + x.2) x.1
    rw [h]
theorem sp_keep (at_ : Nat) : ∀ (vs : List (Value × Nat)) (c : Cell), (c.storePairs at_ vs).cls = c.cls ∧ (c.storePairs at_ vs).vm = c.vm
  | [], c => ⟨rfl, rfl⟩
  | x :: xs, c => by
    show ((c.setSlot (at_ + x.2) x.1).storePairs at_ xs).cls = c.cls ∧ ((c.setSlot (at_ + x.2) x.1).storePairs at_ xs).vm = c.vm
    exact sp_keep at_ xs _
/-- copied places -/
def cpf {α : Type} (F : Nat → Nat → α) (a sp b dp n : Nat) : Nat → Nat → α := fun c k => if c = b ∧ dp ≤ k ∧ k < dp + n then F a (sp + (k - dp)) else F c k
def cpI (h : AH) (a sp b dp n : Nat) : AH := (h.1, h.2.1, cpf h.2.2.1 a sp b dp n, h.2.2.2)
def cpJ (h : AH) (a sp b dp n : Nat) : AH := (h.1, h.2.1, h.2.2.1, cpf h.2.2.2.1 a sp b dp n, h.2.2.2.2)
def cpP (h : AH) (a sp b dp n : Nat) : AH := (h.1, h.2.1, h.2.2.1, h.2.2.2.1, cpf h.2.2.2.2.1 a sp b dp n, h.2.2.2.2.2)
theorem hI_cpI {h : AH} {a sp b dp n c k : Nat} : hI (cpI h a sp b dp n) c k = if c = b ∧ dp ≤ k ∧ k < dp + n then hI h a (sp + (k - dp)) else hI h c k := rfl
theorem hJ_cpJ {h : AH} {a sp b dp n c k : Nat} : hJ (cpJ h a sp b dp n) c k = if c = b ∧ dp ≤ k ∧ k < dp + n then hJ h a (sp + (k - dp)) else hJ h c k := rfl
theorem hP_cpP {h : AH} {a sp b dp n c k : Nat} : hP (cpP h a sp b dp n) c k = if c = b ∧ dp ≤ k ∧ k < dp + n then hP h a (sp + (k - dp)) else hP h c k := rfl
theorem s_copy {h' : AH} {a b j : Nat} {i1 i2 i3 : Int32} {ty : FieldType} (sp dp n : Nat) (hd : decode (mC M) pc = .ok (.invokestatic idx, 3)) (q1 : Cond.methodLink (mY M).cls idx arraycopyName ∈ lw_all) (hka : hK h a = 100 + j) (hkb : hK h b = 100 + j) (hj : ael[j]? = some ty) (h16 : 16 ≤ b) (e1 : i1 = nI sp) (e2 : i2 = nI dp) (e3 : i3 = nI n) (hsm : sp + n < 1000000 ∧ dp + n < 1000000) (hsa : sp + n ≤ hN h a) (hsb : dp + n ≤ hN h b)
    (hval : isP ty = true → ∀ i, i < n → hP h a (sp + i) ≠ 0 → ∃ C, ty = .object C ∧ (Ca (hK h (hP h a (sp + i))) C ∨ okK (hK h (hP h a (sp + i))) = true ∧ kname (hK h (hP h a (sp + i))) = C))
    (hk' : ∀ b, hK h' b = hK h b) (hn' : ∀ b, hN h' b = hN h b) (hx' : hX h' = hX h) (ho : ∀ c i, ¬ (c = b ∧ dp ≤ i ∧ i < dp + n) → ∀ t, fv h' t c i = fv h t c i) (hc' : ∀ i, i < n → fv h' ty b (dp + i) = fv h ty a (sp + i))
    (hd1 : 1 ≤ d) (hst : (st.map fun v => v.category).sum ≤ 8) (k : AW M d post px rc rs (pc + 3) ls st h') : AW M d post px rc rs pc ls (.int i3 :: .int i2 :: .ref b :: .int i1 :: .ref a :: st) h := by
  intro g p l e R s m args below meth c mc ms F H locs cells slots lsA hR hL hl hc hs
  subst e1; subst e2; subst e3
  have hA : AK g s := F.2.2.2.2.2.2.2.2.2.2.2
  have hts := F.2.2.2.2.2.2.1
  have hRm : R = arm d mc ms := F.2.2.2.2.2.2.2.2.2.2.1
  have ha0 : a ≠ 0 := by have := (hR.2.2.1 a (by omega)).1; omega
  have hb0 : b ≠ 0 := by omega
  obtain ⟨ca, a1, a2, a3, a4⟩ := hR.arr (a := a) (by omega)
  obtain ⟨cb, b1, b2, b3, b4⟩ := hR.arr (a := b) (by omega)
  have hfa := (hR.2.2.2.2 a (by omega)).2
  rw [hka, aelt_of hj] at a4 hfa
  rw [hka, Nat.add_sub_cancel_left] at a2
  rw [Nat.add_sub_cancel_left] at a4
  rw [hkb, aelt_of hj] at b4
  rw [hkb, Nat.add_sub_cancel_left] at b2
  rw [Nat.add_sub_cancel_left] at b4
  have hAa := arrIs hA hj a2 a3
  have hAb := arrIs hA hj b2 b3
  obtain ⟨-, k0, hk0, cm0, hkk0⟩ := hAa
  obtain ⟨-, k1, hk1, cm1, hkk1⟩ := hAb
  have csp : (nI sp).toNatClampNeg = sp := nI_clamp (by omega)
  have cdp : (nI dp).toNatClampNeg = dp := nI_clamp (by omega)
  have cn : (nI n).toNatClampNeg = n := nI_clamp (by omega)
  have isp : (nI sp).toInt = (sp : Int) := nI_toInt (by omega)
  have idp : (nI dp).toInt = (dp : Int) := nI_toInt (by omega)
  have iin : (nI n).toInt = (n : Int) := nI_toInt (by omega)
  have hgd : ∀ i, i < n → ca.slots.getD (sp + i) .null = tv g (fv h ty a (sp + i)) := by
    intro i hi
    rw [a4, Array.getD_eq_getD_getElem?, arrV_read _ _ (by omega)]
    rfl
  intro T hT X
  obtain ⟨vm', X', step⟩ := X.arraycopy F.1 F.2.2.2.2.2.1 (hts _ q1) (hts _ q670) (hts _ q669) (hts _ q107) (src := ad g a) (dst := ad g b) (cs := ca) (cd := cb) (srcPos := nI sp) (destPos := nI dp) (n := nI n) (by rw [hT]; exact a1) (by rw [hT]; exact b1)
    (fun _ z => by rw [a3] at z; cases z) (fun _ z => by rw [b3] at z; cases z) (fun z => by rw [a3] at z; cases z) (fun z => by rw [b3] at z; cases z) hk0 hk1 hkk0 hkk1 (by simp) (nI_pos (by omega)) (nI_pos (by omega)) (nI_pos (by omega))
    (by rw [isp, iin, arrSz a4]; omega) (by rw [idp, iin, arrSz b4]; omega)
    (fun vm₁ hal i hi => by
      rw [cn] at hi
      rw [csp, hgd i hi]
      refine ⟨hfa _ (by omega), ?_⟩
      by_cases hp : isP ty = true
      · rw [fv_P hp]
        by_cases hz : hP h a (sp + i) = 0
        · rw [hz]; exact trivial
        · rw [tv_p g hz]
          obtain ⟨C, hC, hcs⟩ := hval hp i hi hz
          subst hC
          have hq : okK (hK h (hP h a (sp + i))) = true := by rcases hcs with z | z <;> exact z.1
          obtain ⟨cv, v1, v2, v3⟩ := recvK hA hR hq
          obtain ⟨kA, comp, r1, r2, r3, -⟩ := (hA.ty hj).2
          rw [b2] at hk1
          cases hk1.symm.trans r1
          cases hkk1.symm.trans r2
          have hasg : s.vm.assignable cv.cls cm1 = true := by
            rcases hcs with z | z
            · obtain ⟨x1, x2, y1, y2, y3⟩ := Cond.castable_spec (va_Nw.use (A := args) rfl (hA.castable z.2))
              cases v3.symm.trans y1
              cases r3.symm.trans y2
              exact y3
            · rw [z.2] at v3
              cases v3.symm.trans r3
              exact va_asg _ _
          obtain ⟨kE, hkE, -⟩ := Vm.findClass_spec r3
          obtain ⟨kC, hkC, -⟩ := Vm.findClass_spec v3
          obtain ⟨kC', hkC', -⟩ := hal.2.2 _ _ hkC
          obtain ⟨kE', hkE', -⟩ := hal.2.2 _ _ hkE
          refine ⟨cv, (show T.heap[_]? = some cv by rw [hT]; exact v1), (fun q y => by rw [y] at v2; cases v2), ⟨kC', hkC'⟩, ⟨kE', hkE'⟩, ?_⟩
          show vm₁.assignable _ _ = true
          rw [hal.assignable]
          exact hasg
      · have : ∀ q, tv g (fv h ty a (sp + i)) ≠ .ref q := by
          intro q
          unfold fv
          cases ty <;> simp [vt, isP, tv] at hp ⊢
        revert this
        cases tv g (fv h ty a (sp + i)) <;> intro this <;> first | exact trivial | exact absurd rfl (this _))
    (g := F0 m pc lsA (.int (nI n) :: .int (nI dp) :: .ref (ad g b) :: .int (nI sp) :: .ref (ad g a) :: st.map (tv g))) rfl (hl.1.trans F.2.2.2.1.symm) (rest := st.map (tv g)) rfl (by rw [F.2.2.1]; exact hd) (by rw [hRm]; exact hd1) (by
      have e9 : nativeFrameWords "java/lang/System" "arraycopy" 5 + 11 ≤ 30 := by decide +kernel
      rw [hRm, tv_lst]; show 2 * 0 + _ + _ ≤ 40 * d; omega)
  have hcop : (copied ca cb (nI sp) (nI dp) (nI n)).slots = (arrV (gA g j) (hN h b) (fun i => tv g (fv h' ty b i))).slots := by
    have e5 : (copied ca cb (nI sp) (nI dp) (nI n)).slots = (copied (arrV (gA g j) (hN h a) (fun i => tv g (fv h ty a i))) (arrV (gA g j) (hN h b) (fun i => tv g (fv h ty b i))) (nI sp) (nI dp) (nI n)).slots := by
      have e8 : ca.stretch (nI sp).toNatClampNeg (nI n).toNatClampNeg = (arrV (gA g j) (hN h a) (fun i => tv g (fv h ty a i))).stretch (nI sp).toNatClampNeg (nI n).toNatClampNeg := by
        unfold Cell.stretch
        rw [a4]
      show (cb.storeRun (nI dp).toNatClampNeg (ca.stretch (nI sp).toNatClampNeg (nI n).toNatClampNeg)).slots = _
      rw [e8]
      exact sp_slots _ _ _ _ b4
    rw [e5]
    have e6 : copied (arrV (gA g j) (hN h a) (fun i => tv g (fv h ty a i))) (arrV (gA g j) (hN h b) (fun i => tv g (fv h ty b i))) (nI sp) (nI dp) (nI n) = arrV (gA g j) (hN h b) (fun i => id (va_cpy (fun i => tv g (fv h ty a i)) (fun i => tv g (fv h ty b i)) (nI sp).toNatClampNeg (nI dp).toNatClampNeg (nI n).toNatClampNeg i)) :=
      va_copied (fun z => id z) (gA g j) (gA g j) (fun i => tv g (fv h ty a i)) (fun i => tv g (fv h ty b i)) (by rw [csp, cn]; exact hsa)
    rw [e6, csp, cdp, cn]
    congr 2
    funext i
    unfold va_cpy
    by_cases hi : dp ≤ i ∧ i < dp + n
    · rw [if_pos hi]
      have e7 := hc' (i - dp) (by omega)
      rw [show dp + (i - dp) = i by omega] at e7
      rw [e7]; rfl
    · rw [if_neg hi, ho b i (fun z => hi z.2)]; rfl
  have hkeep : (copied ca cb (nI sp) (nI dp) (nI n)).cls = cb.cls ∧ (copied ca cb (nI sp) (nI dp) (nI n)).vm = cb.vm := sp_keep _ _ _
  generalize copied ca cb (nI sp) (nI dp) (nI n) = cc at X' step hcop hkeep
  have hlt : ad g b < H.size := (Array.getElem?_eq_some_iff.mp b1).1
  have hheap : ((T.setVm vm').setCell (ad g b) cc).heap = H.setIfInBounds (ad g b) cc := by rw [← hT]; rfl
  have oq : ∀ q : Nat, q ≠ ad g b → (H.setIfInBounds (ad g b) cc)[q]? = H[q]? := fun q hq => by simp [Array.getElem?_setIfInBounds, Ne.symm hq]
  have hR' : AR g h' (H.setIfInBounds (ad g b) cc) := hR.upd hk' hn' hx' h16 (by omega) (fun z hz t f => ho z f (fun y => hz y.1) t) (by simp) oq (fun z => by omega) (fun _ => by
    rw [hkb, aelt_of hj, Nat.add_sub_cancel_left]
    refine ⟨⟨cc, by simp [Array.getElem?_setIfInBounds, hlt], hkeep.1.trans b2, hkeep.2.trans b3, hcop⟩, fun i hi => ?_⟩
    by_cases hz : dp ≤ i ∧ i < dp + n
    · have e7 := hc' (i - dp) (by omega)
      rw [show dp + (i - dp) = i by omega] at e7
      rw [e7]
      exact hfa _ (by omega)
    · rw [ho b i (fun y => hz y.2)]
      have hfb := (hR.2.2.2.2 b (by omega)).2 i hi
      rw [hkb, aelt_of hj] at hfb
      exact hfb)
  obtain ⟨t, a9, b9⟩ := k g p l e R s m args below meth c mc ms F _ (locs ++ (ca.stretch (nI sp).toNatClampNeg (nI n).toNatClampNeg).zipIdx.map fun q => ⟨ad g b, (nI dp).toNatClampNeg + q.2⟩) cells slots lsA hR' (fun z hz => by
    rcases List.mem_append.mp hz with y | y
    · exact hL z y
    · obtain ⟨w, -, hw⟩ := List.mem_map.mp y
      rw [← hw]
      exact ad_ge g h16) hl hc hs _ hheap X'
  refine ⟨t, ?_, b9⟩
  have st9 := step t a9
  show Steps p.tables e below (T.setTop (F0 m pc lsA (.int (nI n) :: .int (nI dp) :: tv g (.ref b) :: .int (nI sp) :: tv g (.ref a) :: st.map (tv g)))) t
  rw [tv_p g ha0, tv_p g hb0]
  exact st9
/-- arraycopy of ints, bytes, shorts, booleans, chars; of longs; of references -/
theorem s_copyI {a b j : Nat} {i1 i2 i3 : Int32} {ty : FieldType} (sp dp n : Nat) (hd : decode (mC M) pc = .ok (.invokestatic idx, 3)) (q1 : Cond.methodLink (mY M).cls idx arraycopyName ∈ lw_all) (hka : hK h a = 100 + j) (hkb : hK h b = 100 + j) (hj : ael[j]? = some ty) (hI0 : isI ty = true) (h16 : 16 ≤ b) (e1 : i1 = nI sp) (e2 : i2 = nI dp) (e3 : i3 = nI n) (hsm : sp + n < 1000000 ∧ dp + n < 1000000) (hsa : sp + n ≤ hN h a) (hsb : dp + n ≤ hN h b)
    (hd1 : 1 ≤ d) (hst : (st.map fun v => v.category).sum ≤ 8) (k : AW M d post px rc rs (pc + 3) ls st (cpI h a sp b dp n)) : AW M d post px rc rs pc ls (.int i3 :: .int i2 :: .ref b :: .int i1 :: .ref a :: st) h := by
  refine s_copy (h' := cpI h a sp b dp n) sp dp n hd q1 hka hkb hj h16 e1 e2 e3 hsm hsa hsb (fun z => absurd z (by cases ty <;> first | (intro y; cases y; done) | (cases hI0; done))) (fun _ => rfl) (fun _ => rfl) rfl (fun c i hn t => ?_) (fun i hi => ?_) hd1 hst k
  · have e : hI (cpI h a sp b dp n) c i = hI h c i := by rw [hI_cpI, if_neg hn]
    unfold fv
    rw [e]
    rfl
  · rw [fv_I hI0, fv_I hI0, hI_cpI, if_pos ⟨rfl, by omega, by omega⟩, Nat.add_sub_cancel_left]
theorem s_copyJ {a b : Nat} {i1 i2 i3 : Int32} (sp dp n : Nat) (hd : decode (mC M) pc = .ok (.invokestatic idx, 3)) (q1 : Cond.methodLink (mY M).cls idx arraycopyName ∈ lw_all) (hka : hK h a = 103) (hkb : hK h b = 103) (h16 : 16 ≤ b) (e1 : i1 = nI sp) (e2 : i2 = nI dp) (e3 : i3 = nI n) (hsm : sp + n < 1000000 ∧ dp + n < 1000000) (hsa : sp + n ≤ hN h a) (hsb : dp + n ≤ hN h b)
    (hd1 : 1 ≤ d) (hst : (st.map fun v => v.category).sum ≤ 8) (k : AW M d post px rc rs (pc + 3) ls st (cpJ h a sp b dp n)) : AW M d post px rc rs pc ls (.int i3 :: .int i2 :: .ref b :: .int i1 :: .ref a :: st) h := by
  refine s_copy (h' := cpJ h a sp b dp n) (j := 3) (ty := .long) sp dp n hd q1 hka hkb rfl h16 e1 e2 e3 hsm hsa hsb (fun z => by cases z) (fun _ => rfl) (fun _ => rfl) rfl (fun c i hn t => ?_) (fun i hi => ?_) hd1 hst k
  · have e : hJ (cpJ h a sp b dp n) c i = hJ h c i := by rw [hJ_cpJ, if_neg hn]
    unfold fv
    rw [e]
    rfl
  · show Value.long (hJ (cpJ h a sp b dp n) b (dp + i)) = Value.long (hJ h a (sp + i))
    rw [hJ_cpJ, if_pos ⟨rfl, by omega, by omega⟩, Nat.add_sub_cancel_left]
theorem s_copyP {a b j : Nat} {C : String} {i1 i2 i3 : Int32} (sp dp n : Nat) (hd : decode (mC M) pc = .ok (.invokestatic idx, 3)) (q1 : Cond.methodLink (mY M).cls idx arraycopyName ∈ lw_all) (hka : hK h a = 100 + j) (hkb : hK h b = 100 + j) (hj : ael[j]? = some (.object C)) (h16 : 16 ≤ b) (e1 : i1 = nI sp) (e2 : i2 = nI dp) (e3 : i3 = nI n) (hsm : sp + n < 1000000 ∧ dp + n < 1000000) (hsa : sp + n ≤ hN h a) (hsb : dp + n ≤ hN h b)
    (hval : ∀ i, i < n → hP h a (sp + i) ≠ 0 → (Ca (hK h (hP h a (sp + i))) C ∨ okK (hK h (hP h a (sp + i))) = true ∧ kname (hK h (hP h a (sp + i))) = C))
    (hd1 : 1 ≤ d) (hst : (st.map fun v => v.category).sum ≤ 8) (k : AW M d post px rc rs (pc + 3) ls st (cpP h a sp b dp n)) : AW M d post px rc rs pc ls (.int i3 :: .int i2 :: .ref b :: .int i1 :: .ref a :: st) h := by
  refine s_copy (h' := cpP h a sp b dp n) sp dp n hd q1 hka hkb hj h16 e1 e2 e3 hsm hsa hsb (fun _ i hi hz => ⟨C, rfl, hval i hi hz⟩) (fun _ => rfl) (fun _ => rfl) rfl (fun c i hn t => ?_) (fun i hi => ?_) hd1 hst k
  · have e : hP (cpP h a sp b dp n) c i = hP h c i := by rw [hP_cpP, if_neg hn]
    unfold fv
    rw [e]
    rfl
  · show Value.ref (hP (cpP h a sp b dp n) b (dp + i)) = Value.ref (hP h a (sp + i))
    rw [hP_cpP, if_pos ⟨rfl, by omega, by omega⟩, Nat.add_sub_cancel_left]
end RX
