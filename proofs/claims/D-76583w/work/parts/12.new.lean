/-! AW: rows that make things; references in arrays; casts -/
set_option maxRecDepth 100000
theorem aty_noF : ∀ k, k < 29 → ∀ f, f < knf k → aty k f ≠ .float ∧ aty k f ≠ .double := by decide +kernel
theorem dv_vt (g : AG) {ty : FieldType} (h1 : ty ≠ .float) (h2 : ty ≠ .double) : tv g (vt ty 0 0 0) = defaultValue ty := by
  cases ty <;> first | rfl | exact absurd rfl h1 | exact absurd rfl h2
theorem hK_nw {h : AH} {k n : Nat} : hK (nw h k n) (hX h) = k := by simp [hK, nw]
/-- what stands at a thing's address -/
def kname (k : Nat) : String := if k < 100 then knm k else match k - 100 with
  | 0 => "[I" | 1 => "[B" | 2 => "[S" | 3 => "[J" | 4 => "[Z" | 5 => "[C" | 6 => "[LFuneralDebts$Mourner;" | 7 => "[LFuneralDebts$Tape;" | 8 => "[Ljava/lang/Object;" | _ => ""
def okK (k : Nat) : Bool := (decide (k < 29) && decide (0 < k)) || (decide (100 ≤ k) && decide (k < 109))
theorem va_nm_obj {s : State} {cA : ClassId} {C nm : String} (e : "[" ++ (FieldType.object C).toString = nm) (h : va_RA s cA (.object C)) : s.vm.findClass nm = some cA := by
  obtain ⟨kA, comp, -, -, -, h4⟩ := h
  rw [← e]
  exact h4
theorem recvK {g : AG} {s : State} {h : AH} {H : Heap} {a : Nat} (hA : AK g s) (hR : AR g h H) (hk : okK (hK h a) = true) : ∃ cell : Cell, H[ad g a]? = some cell ∧ cell.vm.isStatics = false ∧ s.vm.findClass (kname (hK h a)) = some cell.cls := by
  generalize hk0 : hK h a = kk at hk
  simp only [okK, Bool.or_eq_true, Bool.and_eq_true, decide_eq_true_eq] at hk
  rcases hk with ⟨h9, h0⟩ | ⟨h9, h0⟩
  · obtain ⟨cell, c1, c2, c3, -⟩ := hR.cell (a := a) (by omega) (by omega)
    obtain ⟨q, e1⟩ := acl_some h9
    obtain ⟨-, hfc, -⟩ := hA.kn.1 _ _ e1
    refine ⟨cell, c1, by rw [c3]; rfl, ?_⟩
    rw [c2, hk0]
    unfold kname
    rw [if_pos (by omega), acl_nm e1]
    exact hfc
  · obtain ⟨cell, c1, c2, c3, -⟩ := hR.arr (a := a) (by omega)
    refine ⟨cell, c1, by rw [c3]; rfl, ?_⟩
    obtain ⟨j, hj⟩ : ∃ j, j = kk - 100 := ⟨_, rfl⟩
    have hj2 : kk = 100 + j := by omega
    rw [c2, hk0, ← hj]
    unfold kname
    rw [if_neg (by omega), ← hj]
    match j, hj, hj2 with
    | 0, _, _ => exact va_nm_int (hA.ty (j := 0) rfl).2
    | 1, _, _ => exact va_nm_byte (hA.ty (j := 1) rfl).2
    | 2, _, _ => exact va_nm_short (hA.ty (j := 2) rfl).2
    | 3, _, _ => exact va_nm_long (hA.ty (j := 3) rfl).2
    | 4, _, _ => exact va_nm_boolean (hA.ty (j := 4) rfl).2
    | 5, _, _ => exact va_nm_char (hA.ty (j := 5) rfl).2
    | 6, _, _ => exact va_nm_obj (by decide +kernel) (hA.ty (j := 6) rfl).2
    | 7, _, _ => exact va_nm_obj (by decide +kernel) (hA.ty (j := 7) rfl).2
    | 8, _, _ => exact va_nm_obj (by decide +kernel) (hA.ty (j := 8) rfl).2
    | j + 9, _, _ => omega
/-- a thing of kind k passes for one of class nm: so the tables say -/
def Ca (k : Nat) (nm : String) : Prop := okK k = true ∧ Cond.castable (kname k) nm ∈ lw_tbl
/-- .. it doesn't: so the start's words say -/
def Nca (k : Nat) (nm : String) : Prop := okK k = true ∧ Cond.not (.castable (kname k) nm) ∈ flatC (Jvm.Cond.and given_1 narrow_1)
theorem AK.nc {g : AG} {s : State} {k : Nat} {nm : String} (hA : AK g s) (h : Nca k nm) : va_Nc (kname k) nm s := by
  obtain ⟨⟨⟨b0, -, -, h1⟩, -⟩, hW⟩ := hA
  exact va_Nc.moved hW.alike (va_Nc.of (flat_of_before _ h1 _ h.2))
section RN
variable {M : AMt} {d : Nat} {post : Option Value → AH → Prop} {px : Nat → AH → Prop} {rc rs pc : Nat} {ls : List (Nat × Value)} {st : List Value} {h : AH}
theorem s_new {idx n : Nat} (kk a : Nat) (hd : decode (mC M) pc = .ok (.new idx, 3)) (q1 : Cond.classLink (mY M).cls idx (knm kk) ∈ lw_all) (q2 : Cond.instantiable (knm kk) n ∈ lw_all) (q3 : Cond.initialized (knm kk) ∈ lw_all) (hkk : kk ≠ 0 ∧ kk < 29) (hx : hX h = a) (hrc : 1 ≤ rc) (hrs : n ≤ rs)
    (k : AW M d post px (rc - 1) (rs - n) (pc + 3) ls (.ref a :: st) (nw h kk 0)) : AW M d post px rc rs pc ls st h := by
  intro g p l e R s m args below meth c mc ms F H locs cells slots lsA hR hL hl hc hs
  subst hx
  have hown := F.2.2.2.2.2.1
  have hts := F.2.2.2.2.2.2.1
  have hA : AK g s := F.2.2.2.2.2.2.2.2.2.2.2
  have hRm : R = arm d mc ms := F.2.2.2.2.2.2.2.2.2.2.1
  obtain ⟨q, e1⟩ := acl_some hkk.2
  have hKn := hA.kn.1 _ _ e1
  obtain ⟨hfc, kC0, hkC0, hkind⟩ := hKn.2
  have hfc' : s.vm.findClass (knm kk) = some (gC g kk) := by rw [acl_nm e1]; exact hfc
  have hads : ad g (hX h) = H.size := by rw [ad_hi g hR.1.2, hR.1.1]
  refine W.newcK (g := F0 m pc lsA (st.map (tv g))) F.1 F.2.2.1 hown (hts _ q1) (hts _ q2) (hts _ q3) rfl hd (by rw [hRm]; show cells + 1 ≤ mc; omega) (by rw [hRm]; show slots + n ≤ ms; omega) hfc' rfl (fun H1 kC hkC e2 z1 o1 => ?_)
  have hB := u_born (aty kk) hts (acl_in e1) hKn hkC e2 (acl_ty e1)
  have hR' : AR g (nw h kk 0) H1 := hR.new z1 o1 (fun _ _ => by
    unfold AObj
    rw [hK_nw, hads, acl_kn e1]
    refine hB.to (fun f hf => ?_)
    have h2 := aty_noF kk hkk.2 f (by rw [acl_kn e1]; exact hf)
    rw [fv_nw0, dv_vt g h2.1 h2.2]) (fun z => absurd z (by omega))
  have K := k g p l e R s m args below meth c mc ms F H1 locs (cells + 1) (slots + n) lsA hR' hL hl (by omega) (by omega)
  rw [List.map_cons, tv_p g (by have := hR.1.2; omega), hads] at K
  exact K
theorem nw_arr {g : AG} {h : AH} {H H1 : Heap} {cA : ClassId} {j N : Nat} {x : Value} (hR : AR g h H) (hsz : H1.size = H.size + 1) (hH : ∀ q, q < H.size → H1[q]? = H[q]?) (he : H1[H.size]? = some (arrV cA N (fun _ => x))) (hcA : cA = gA g j) (hx : tv g (vt (aelt (100 + j)) 0 0 0) = x) (hf : fits (aelt (100 + j)) x = true) : AR g (nw h (100 + j) N) H1 := by
  refine hR.new hsz hH (fun _ z => absurd z (by omega)) (fun _ => ?_)
  rw [ad_hi g hR.1.2, ← hR.1.1, Nat.add_sub_cancel_left, ← hcA, hx]
  exact ⟨⟨_, he, rfl, rfl, rfl⟩, hf⟩
theorem s_newa {atype : ArrayType} {n : Int32} {ty : FieldType} (N j a : Nat) (hd : decode (mC M) pc = .ok (.newarray atype, 2)) (hty : newarray.typeOf atype = ty) (hj : ael[j]? = some ty) (q1 : Cond.arrayClass ty ∈ lw_all) (h0 : ty ≠ .float ∧ ty ≠ .double ∧ isP ty = false) (hn : n = nI N) (hN : N < 1000) (hx : hX h = a) (hrc : 1 ≤ rc) (hrs : N ≤ rs)
    (k : AW M d post px (rc - 1) (rs - N) (pc + 2) ls (.ref a :: st) (nw h (100 + j) N)) : AW M d post px rc rs pc ls (.int n :: st) h := by
  intro g p l e R s m args below meth c mc ms F H locs cells slots lsA hR hL hl hc hs
  subst hx
  subst hn
  have hts := F.2.2.2.2.2.2.1
  have hA : AK g s := F.2.2.2.2.2.2.2.2.2.2.2
  have hRm : R = arm d mc ms := F.2.2.2.2.2.2.2.2.2.2.1
  have hads : ad g (hX h) = H.size := by rw [ad_hi g hR.1.2, hR.1.1]
  have hcl : (nI N).toNatClampNeg = N := nI_clamp (by omega)
  have hcb : ∀ t : FieldType, componentBytes t ≤ 8 := by intro t; cases t <;> first | decide | simp [componentBytes]
  refine va_newaK (N := N) (h := H.size) (g := F0 m pc lsA ((Value.int (nI N) :: st).map (tv g))) F.1 F.2.2.1 (by rw [hty]; exact hts _ q1) rfl hd (rest := st.map (tv g)) (n := nI N) rfl (nI_pos (by omega)) hcl (by have := hcb (newarray.typeOf atype); have h3 : N * componentBytes (newarray.typeOf atype) ≤ N * 8 := Nat.mul_le_mul_left _ this; omega) (by rw [hRm]; show cells + 1 ≤ mc; omega) (by rw [hRm]; show slots + N ≤ ms; omega) rfl (fun H1 cA e2 z1 o1 hAr hnm => ?_)
  rw [hty] at e2 hnm
  have hcA : cA = gA g j := by
    have h4 := (hA.ty hj).2
    have h5 : s.vm.findClass ("[" ++ ty.toString) = some (gA g j) := by
      revert h0 h4
      cases ty <;> intro h0 h4 <;> first | exact h4 | exact absurd h0.2.2 (by simp [isP])
    exact Option.some.inj (hnm.symm.trans h5)
  have hR' : AR g (nw h (100 + j) N) H1 := nw_arr hR z1 o1 e2 hcA (by rw [aelt_of hj, dv_vt g h0.1 h0.2.1]) (by rw [aelt_of hj]; revert h0; cases ty <;> intro h0 <;> first | rfl | exact absurd rfl h0.1 | exact absurd rfl h0.2.1)
  have K := k g p l e R s m args below meth c mc ms F H1 locs (cells + 1) (slots + N) lsA hR' hL hl (by omega) (by omega)
  rw [List.map_cons, tv_p g (by have := hR.1.2; omega), hads] at K
  exact K
theorem s_newq {idx : Nat} {n : Int32} {C : String} (N j a : Nat) (hd : decode (mC M) pc = .ok (.anewarray idx, 3)) (hj : ael[j]? = some (.object C)) (q1 : Cond.classLink (mY M).cls idx C ∈ lw_all) (q2 : Cond.arrayOver (.object C) ∈ lw_tbl) (hn : n = nI N) (hN : N < 1000) (hx : hX h = a) (hrc : 1 ≤ rc) (hrs : N ≤ rs)
    (k : AW M d post px (rc - 1) (rs - N) (pc + 3) ls (.ref a :: st) (nw h (100 + j) N)) : AW M d post px rc rs pc ls (.int n :: st) h := by
  intro g p l e R s m args below meth c mc ms F H locs cells slots lsA hR hL hl hc hs
  subst hx
  subst hn
  have hown := F.2.2.2.2.2.1
  have hts := F.2.2.2.2.2.2.1
  have hA : AK g s := F.2.2.2.2.2.2.2.2.2.2.2
  have hRm : R = arm d mc ms := F.2.2.2.2.2.2.2.2.2.2.1
  have hads : ad g (hX h) = H.size := by rw [ad_hi g hR.1.2, hR.1.1]
  have hcl : (nI N).toNatClampNeg = N := nI_clamp (by omega)
  refine W.anew (g := F0 m pc lsA ((Value.int (nI N) :: st).map (tv g))) F.1 F.2.2.1 hown (hts _ q1) (va_AO.use (hA.over q2)) rfl hd (rest := st.map (tv g)) (n := nI N) rfl (nI_pos (by omega)) (by rw [hcl]; omega) (by rw [hRm]; show cells + 1 ≤ mc; omega) (by rw [hRm, hcl]; show slots + N ≤ ms; omega) (fun cA kA comp f1 f2 f3 f4 => ?_)
  rw [hcl]
  generalize hH1 : H.push ({ cls := cA, slots := Array.replicate N .null, vm := .none } : Cell) = H1
  have z1 : H1.size = H.size + 1 := by rw [← hH1, Array.size_push]
  have e1 : H1[H.size]? = some (arrV cA N (fun _ => .null)) := by rw [← hH1, Array.getElem?_push_size, ← arrV_new]
  have o1 : ∀ q : Nat, q < H.size → H1[q]? = H[q]? := fun q hq => by rw [← hH1, Array.getElem?_push, if_neg (Nat.ne_of_lt hq)]
  have hcA : cA = gA g j := by
    obtain ⟨kA', comp', -, -, -, h5⟩ := (hA.ty hj).2
    exact Option.some.inj (f1.symm.trans h5)
  have hR' : AR g (nw h (100 + j) N) H1 := nw_arr hR z1 o1 e1 hcA (by rw [aelt_of hj]; rfl) (by rw [aelt_of hj]; rfl)
  have K := k g p l e R s m args below meth c mc ms F H1 locs (cells + 1) (slots + N) lsA hR' hL hl (by omega) (by omega)
  rw [List.map_cons, tv_p g (by have := hR.1.2; omega), hads] at K
  exact K
/-- a reference into an array -/
theorem s_aast {a j jj v : Nat} {C : String} {i : Int32} (hd : decode (mC M) pc = .ok (.aastore, 1)) (hk : hK h a = 100 + jj) (hj : ael[jj]? = some (.object C)) (h16 : 16 ≤ a) (hi : ix i j (hN h a)) (hv : v ≠ 0 → (Ca (hK h v) C ∨ okK (hK h v) = true ∧ kname (hK h v) = C)) (k : AW M d post px rc rs (pc + 1) ls st (sP h a j v)) : AW M d post px rc rs pc ls (.ref v :: .int i :: .ref a :: st) h := by
  intro g p l e R s m args below meth c mc ms F H locs cells slots lsA hR hL hl hc hs
  obtain ⟨cell, c1, c2, c3, c4⟩ := hR.arr (a := a) (by omega)
  have hA : AK g s := F.2.2.2.2.2.2.2.2.2.2.2
  have h0 : a ≠ 0 := by omega
  have hk9 := hk
  rw [hk, aelt_of hj] at c4
  rw [hk, Nat.add_sub_cancel_left] at c2
  obtain ⟨i1, i2, i3⟩ := hi
  have fin : ∀ (H' : Heap) (w : Value), w = tv g (.ref v) → H'[ad g a]? = some (cell.setSlot j w) → H'.size = H.size → (∀ q, q ≠ ad g a → H'[q]? = H[q]?) → W p l e R s m args below meth c H' (locs ++ [⟨ad g a, j⟩]) cells slots (vx_MQ below (AQ g post) (AX g px) args s mc ms (afree g)) (F0 m (pc + 1) lsA (st.map (tv g))) := by
    intro H' w hw e1 e2 e3
    have hR' : AR g (sP h a j v) H' := hR.upd (fun _ => rfl) (fun _ => rfl) rfl h16 (by omega) (fun b hb ty f => fv_sP (fun z => hb z.1)) e2 e3 (fun z => by omega)
      (fun z => AArr.set hR z c1 (by rw [hk9, aelt_of hj]; show tv g (.ref (hP (sP h a j v) a j)) = _; rw [hP_sP, hw]) (fun ty f hf => fv_sP (fun z => hf z.2)) (by rw [hk9, aelt_of hj, hw]; by_cases z0 : v = 0 <;> simp [tv, z0, fits]) e1)
    exact k g p l e R s m args below meth c mc ms F H' (locs ++ [⟨ad g a, j⟩]) cells slots lsA hR' (fun z hz => by
      rcases List.mem_append.mp hz with z1 | z1
      · exact hL z z1
      · rw [List.mem_singleton.mp z1]
        exact ad_ge g h16) hl hc hs
  show W p l e R s m args below meth c H locs cells slots _ (F0 m pc lsA (tv g (.ref v) :: .int i :: tv g (.ref a) :: st.map (tv g)))
  rw [tv_p g h0]
  by_cases hv0 : v = 0
  · subst hv0
    refine va_WaastN F.1 F.2.2.1 c1 (arrIs hA hj c2 c3) (by rw [c3]; exact fun z => by cases z) (by rw [arrSz c4, i2]; exact fun z => z.elim i1 (by omega)) rfl rfl hd (fun H' e1 e2 e3 => ?_)
    rw [i2] at e1 ⊢
    exact fin H' .null rfl e1 e2 e3
  · rw [tv_p g hv0]
    obtain ⟨kA, comp, k1, k2, k3, -⟩ := (hA.ty hj).2
    have hq : okK (hK h v) = true := by rcases hv hv0 with z | z <;> exact z.1
    obtain ⟨cv, v1, v2, v3⟩ := recvK hA hR hq
    have hasg : s.vm.assignable cv.cls comp = true := by
      rcases hv hv0 with z | z
      · obtain ⟨x1, x2, y1, y2, y3⟩ := Cond.castable_spec (va_Nw.use (A := args) rfl (hA.castable z.2))
        cases v3.symm.trans y1
        cases k3.symm.trans y2
        exact y3
      · rw [z.2] at v3
        cases v3.symm.trans k3
        exact va_asg _ _
    obtain ⟨kcomp, hkcomp, -⟩ := Vm.findClass_spec k3
    obtain ⟨kv, hkv, -⟩ := Vm.findClass_spec v3
    refine W.aast F.1 F.2.2.1 c1 (fun q z => by rw [c3] at z; cases z) (by rw [c3]; exact fun z => by cases z) (by rw [c2]; exact k1) k2 rfl hkcomp ⟨i1, by rw [arrSz c4, i2]; exact i3⟩ v1 (fun q z => by rw [z] at v2; cases v2) hkv hasg rfl rfl hd (fun H' e1 e2 e3 => ?_)
    rw [i2] at e1 ⊢
    exact fin H' _ (tv_p g hv0).symm e1 e2 e3
theorem s_castY {idx a : Nat} (nm : String) (hd : decode (mC M) pc = .ok (.checkcast idx, 3)) (q1 : Cond.classLink (mY M).cls idx nm ∈ lw_all) (hv : a ≠ 0 → (Ca (hK h a) nm ∨ okK (hK h a) = true ∧ kname (hK h a) = nm)) (k : AW M d post px rc rs (pc + 3) ls (.ref a :: st) h) : AW M d post px rc rs pc ls (.ref a :: st) h := by
  intro g p l e R s m args below meth c mc ms F H locs cells slots lsA hR hL hl hc hs
  have hown := F.2.2.2.2.2.1
  have hts := F.2.2.2.2.2.2.1
  have hA : AK g s := F.2.2.2.2.2.2.2.2.2.2.2
  have K := k g p l e R s m args below meth c mc ms F H locs cells slots lsA hR hL hl hc hs
  by_cases h0 : a = 0
  · subst h0
    exact lv_castN F.1 F.2.2.1 hd K
  · rw [List.map_cons, tv_p g h0] at K ⊢
    have hq : okK (hK h a) = true := by rcases hv h0 with z | z <;> exact z.1
    obtain ⟨cell, c1, c2, c3⟩ := recvK hA hR hq
    rcases hv h0 with z | z
    · exact va_castY F.1 F.2.2.1 hown (hts _ q1) (hA.castable z.2) ⟨cell, c1, c2, c3⟩ hd K
    · intro T hT X
      rw [z.2] at c3
      obtain ⟨vm', X', st9⟩ := X.checkcastYes F.1 hown (hts _ q1) (by rw [hT]; exact c1) c2 c3 (va_asg _ _) (g := F0 m pc lsA (.ref (ad g a) :: st.map (tv g))) rfl rfl (by rw [F.2.2.1]; exact hd)
      obtain ⟨t, a1, b1⟩ := K (T.setVm vm') hT X'
      exact ⟨t, st9 t a1, b1⟩
theorem s_instY {idx a : Nat} (nm : String) (hd : decode (mC M) pc = .ok (.instanceof idx, 3)) (q1 : Cond.classLink (mY M).cls idx nm ∈ lw_all) (h0 : a ≠ 0) (hv : Ca (hK h a) nm ∨ okK (hK h a) = true ∧ kname (hK h a) = nm) (k : AW M d post px rc rs (pc + 3) ls (.int 1 :: st) h) : AW M d post px rc rs pc ls (.ref a :: st) h := by
  intro g p l e R s m args below meth c mc ms F H locs cells slots lsA hR hL hl hc hs
  have hown := F.2.2.2.2.2.1
  have hts := F.2.2.2.2.2.2.1
  have hA : AK g s := F.2.2.2.2.2.2.2.2.2.2.2
  have K := k g p l e R s m args below meth c mc ms F H locs cells slots lsA hR hL hl hc hs
  rw [List.map_cons, tv_p g h0]
  have hq : okK (hK h a) = true := by rcases hv with z | z <;> exact z.1
  obtain ⟨cell, c1, c2, c3⟩ := recvK hA hR hq
  rcases hv with z | z
  · exact va_instY F.1 F.2.2.1 hown (hts _ q1) (hA.castable z.2) ⟨cell, c1, c2, c3⟩ hd K
  · intro T hT X
    rw [z.2] at c3
    obtain ⟨vm', X', st9⟩ := X.instanceofYes F.1 hown (hts _ q1) (by rw [hT]; exact c1) c2 c3 (va_asg _ _) (g := F0 m pc lsA (.ref (ad g a) :: st.map (tv g))) rfl rfl (by rw [F.2.2.1]; exact hd)
    obtain ⟨t, a1, b1⟩ := K (T.setVm vm') hT X'
    exact ⟨t, st9 t a1, b1⟩
theorem s_instN {idx a : Nat} (nm : String) (hd : decode (mC M) pc = .ok (.instanceof idx, 3)) (q1 : Cond.classLink (mY M).cls idx nm ∈ lw_all) (hv : a ≠ 0 → Nca (hK h a) nm) (k : AW M d post px rc rs (pc + 3) ls (.int 0 :: st) h) : AW M d post px rc rs pc ls (.ref a :: st) h := by
  intro g p l e R s m args below meth c mc ms F H locs cells slots lsA hR hL hl hc hs
  have hown := F.2.2.2.2.2.1
  have hts := F.2.2.2.2.2.2.1
  have hA : AK g s := F.2.2.2.2.2.2.2.2.2.2.2
  have K := k g p l e R s m args below meth c mc ms F H locs cells slots lsA hR hL hl hc hs
  by_cases h0 : a = 0
  · subst h0
    exact lv_instN F.1 F.2.2.1 hd K
  · rw [List.map_cons, tv_p g h0]
    exact va_instNo F.1 F.2.2.1 hown (hts _ q1) (hA.nc (hv h0)) (recvK hA hR (hv h0).1) hd K
/-- two references compared -/
theorem acmp_iff {g : AG} {h : AH} {H : Heap} (hR : AR g h H) {a b : Nat} (hab : a = b ∨ (hK h a ≠ 0 ∧ 16 ≤ b) ∨ (hK h b ≠ 0 ∧ 16 ≤ a)) : ad g a = ad g b ↔ a = b := by
  refine ⟨fun e => ?_, fun e => by rw [e]⟩
  rcases hab with z | ⟨z1, z2⟩ | ⟨z1, z2⟩
  · exact z
  · exact ad_inj hR z1 z2 e
  · exact (ad_inj hR z1 z2 e.symm).symm
theorem s_acmp_eq {a b : Nat} {off : Int} (tgt : Nat) (hd : decode (mC M) pc = .ok (.if_acmp .eq off, 3)) (ht : (pc : Int) + off = (tgt : Int)) (h0 : a ≠ 0 ∧ b ≠ 0) (hab : a = b ∨ (hK h a ≠ 0 ∧ 16 ≤ b) ∨ (hK h b ≠ 0 ∧ 16 ≤ a)) (kt : a = b → AW M d post px rc rs tgt ls st h) (kf : ¬ a = b → AW M d post px rc rs (pc + 3) ls st h) : AW M d post px rc rs pc ls (.ref b :: .ref a :: st) h := by
  intro g p l e R s m args below meth c mc ms F H locs cells slots lsA hR hL hl hc hs
  have hi := acmp_iff hR hab
  rw [List.map_cons, List.map_cons, tv_p g h0.1, tv_p g h0.2]
  exact lv_acmp_eq (rx := some (ad g a)) (ry := some (ad g b)) F.1 F.2.2.1 hd ht (fun z => kt (hi.mp (Option.some.inj z)) g p l e R s m args below meth c mc ms F H locs cells slots lsA hR hL hl hc hs) (fun z => kf (fun y => z (by rw [y])) g p l e R s m args below meth c mc ms F H locs cells slots lsA hR hL hl hc hs)
theorem s_acmp_ne {a b : Nat} {off : Int} (tgt : Nat) (hd : decode (mC M) pc = .ok (.if_acmp .ne off, 3)) (ht : (pc : Int) + off = (tgt : Int)) (h0 : a ≠ 0 ∧ b ≠ 0) (hab : a = b ∨ (hK h a ≠ 0 ∧ 16 ≤ b) ∨ (hK h b ≠ 0 ∧ 16 ≤ a)) (kt : ¬ a = b → AW M d post px rc rs tgt ls st h) (kf : a = b → AW M d post px rc rs (pc + 3) ls st h) : AW M d post px rc rs pc ls (.ref b :: .ref a :: st) h := by
  intro g p l e R s m args below meth c mc ms F H locs cells slots lsA hR hL hl hc hs
  have hi := acmp_iff hR hab
  rw [List.map_cons, List.map_cons, tv_p g h0.1, tv_p g h0.2]
  exact lv_acmp_ne (rx := some (ad g a)) (ry := some (ad g b)) F.1 F.2.2.1 hd ht (fun z => kt (fun y => z (by rw [y])) g p l e R s m args below meth c mc ms F H locs cells slots lsA hR hL hl hc hs) (fun z => kf (hi.mp (Option.some.inj z)) g p l e R s m args below meth c mc ms F H locs cells slots lsA hR hL hl hc hs)
/-- Object's constructor -/
theorem s_objInit {idx a : Nat} (hd : decode (mC M) pc = .ok (.invokespecial idx, 3)) (q1 : Cond.methodLink (mY M).cls idx Lib.objectInit ∈ lw_all) (h0 : a ≠ 0) (hd1 : 1 ≤ d) (hst : (st.map fun v => v.category).sum ≤ 20) (k : AW M d post px rc rs (pc + 3) ls st h) : AW M d post px rc rs pc ls (.ref a :: st) h := by
  intro g p l e R s m args below meth c mc ms F H locs cells slots lsA hR hL hl hc hs
  have hown := F.2.2.2.2.2.1
  have hts := F.2.2.2.2.2.2.1
  have hRm : R = arm d mc ms := F.2.2.2.2.2.2.2.2.2.2.1
  rw [List.map_cons, tv_p g h0]
  have e9 : ((st.map (tv g)).map fun v => v.category) = (st.map fun v => v.category) := by rw [List.map_map]; exact List.map_congr_left (fun v _ => tv_cat g v)
  exact W.objInit F.1 F.2.2.1 hown (hts _ q1) (hts _ q121) (hts _ q122) (g := F0 m pc lsA (.ref (ad g a) :: st.map (tv g))) rfl (hl.1.trans F.2.2.2.1.symm) rfl hd (by rw [hRm]; exact hd1) (by rw [hRm, e9]; show 2 * 0 + _ + 12 ≤ 40 * d; omega) (k g p l e R s m args below meth c mc ms F H locs cells slots lsA hR hL hl hc hs)
end RN
