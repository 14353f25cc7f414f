/-! AW: rows of the heap -/
set_option maxRecDepth 100000
theorem in_Off : ∀ w ∈ u_ws RX15 TOff 1, w ∈ lw_all := lw_in (u_ws RX15 TOff 1) [880] (by decide +kernel) (by decide +kernel)
theorem in_no {C : String} {T : u_T} : ∀ w ∈ u_ws C T 0, w ∈ lw_all := fun w h => by cases h
theorem tyOff_ok : ∀ k, k < 1 → parseFieldDescriptor (TOff k).2.2.1 = some (tyOff k) := by decide +kernel
theorem tyno {T : u_T} {t : Nat → FieldType} : ∀ k, k < 0 → parseFieldDescriptor (T k).2.2.1 = some (t k) := fun k h => absurd h (Nat.not_lt_zero k)
theorem acl_in0 : ∀ q ∈ acl, ∀ w ∈ u_ws q.1 q.2.1 q.2.2, w ∈ lw_all := List.forall_mem_cons.mpr ⟨in_X0, List.forall_mem_cons.mpr ⟨in_X0, List.forall_mem_cons.mpr ⟨in_X1, List.forall_mem_cons.mpr ⟨in_X2, List.forall_mem_cons.mpr ⟨in_X3, List.forall_mem_cons.mpr ⟨in_X4, List.forall_mem_cons.mpr ⟨in_X5, List.forall_mem_cons.mpr ⟨in_X6, List.forall_mem_cons.mpr ⟨in_X7, List.forall_mem_cons.mpr ⟨in_X8, List.forall_mem_cons.mpr ⟨in_X9, List.forall_mem_cons.mpr ⟨in_X10, List.forall_mem_cons.mpr ⟨in_X11, List.forall_mem_cons.mpr ⟨in_X12, List.forall_mem_cons.mpr ⟨in_X13, List.forall_mem_cons.mpr ⟨in_X14, List.forall_mem_cons.mpr ⟨in_Off, List.forall_mem_cons.mpr ⟨in_X16, List.forall_mem_cons.mpr ⟨in_X0, List.forall_mem_cons.mpr ⟨in_X18, List.forall_mem_cons.mpr ⟨in_X19, List.forall_mem_cons.mpr ⟨in_X20, List.forall_mem_cons.mpr ⟨in_J2, List.forall_mem_cons.mpr ⟨in_J6, List.forall_mem_cons.mpr ⟨in_no, List.forall_mem_cons.mpr ⟨in_no, List.forall_mem_cons.mpr ⟨in_no, List.forall_mem_cons.mpr ⟨in_no, List.forall_mem_cons.mpr ⟨in_no, fun _ h => by cases h⟩⟩⟩⟩⟩⟩⟩⟩⟩⟩⟩⟩⟩⟩⟩⟩⟩⟩⟩⟩⟩⟩⟩⟩⟩⟩⟩⟩⟩
theorem acl_in {k : Nat} {q : vw_C} (h : acl[k]? = some q) : ∀ w ∈ u_ws q.1 q.2.1 q.2.2, w ∈ lw_all := acl_in0 q (List.mem_of_getElem? h)
theorem acl_ty : ∀ {k : Nat} {q : vw_C}, acl[k]? = some q → ∀ f, f < q.2.2 → parseFieldDescriptor (q.2.1 f).2.2.1 = some (aty k f)
  | 0, _, rfl => tyX0_ok
  | 1, _, rfl => tyX0_ok
  | 2, _, rfl => tyX1_ok
  | 3, _, rfl => tyX2_ok
  | 4, _, rfl => tyX3_ok
  | 5, _, rfl => tyX4_ok
  | 6, _, rfl => tyX5_ok
  | 7, _, rfl => tyX6_ok
  | 8, _, rfl => tyX7_ok
  | 9, _, rfl => tyX8_ok
  | 10, _, rfl => tyX9_ok
  | 11, _, rfl => tyX10_ok
  | 12, _, rfl => tyX11_ok
  | 13, _, rfl => tyX12_ok
  | 14, _, rfl => tyX13_ok
  | 15, _, rfl => tyX14_ok
  | 16, _, rfl => tyOff_ok
  | 17, _, rfl => tyX16_ok
  | 18, _, rfl => tyX0_ok
  | 19, _, rfl => tyX18_ok
  | 20, _, rfl => tyX19_ok
  | 21, _, rfl => tyX20_ok
  | 22, _, rfl => tyJ2_ok
  | 23, _, rfl => tyJ6_ok
  | 24, _, rfl => tyno
  | 25, _, rfl => tyno
  | 26, _, rfl => tyno
  | 27, _, rfl => tyno
  | 28, _, rfl => tyno
  | _ + 29, _, h => by cases h
theorem acl_kn {k : Nat} {q : vw_C} (h : acl[k]? = some q) : knf k = q.2.2 := by unfold knf; rw [h]
theorem acl_nm {k : Nat} {q : vw_C} (h : acl[k]? = some q) : knm k = q.1 := by unfold knm; rw [h]
theorem acl_some {k : Nat} (h : k < 29) : ∃ q, acl[k]? = some q := by
  have h2 : k < acl.length := h
  exact ⟨acl[k], List.getElem?_eq_getElem h2⟩
theorem AK.kn {g : AG} {s : State} (hA : AK g s) : va_K (gC g, gF g) acl (atys g) s := va_K.moved hA.2.alike hA.1.2.2.1
/-- a field of a kind -/
def FO (k f : Nat) (D n d : String) : Prop := k < 29 ∧ k ≠ 0 ∧ f < knf k ∧ ∃ q, acl[k]? = some q ∧ (q.2.1 f).1 = D ∧ (q.2.1 f).2.1 = n ∧ (q.2.1 f).2.2.1 = d
theorem FO.at {k k' f : Nat} {D n d : String} (e : k' = k) (h : FO k f D n d) : FO k' f D n d := e ▸ h
/-- an entry of a pool that names a field -/
def FL (own : String) (idx : Nat) (D n d : String) : Prop := ∃ ref, (Cond.fieldLink own idx ref n d ∈ lw_all ∨ ∃ host, Cond.fieldLinkNest own idx ref n d host ∈ lw_tbl) ∧ (ref = D ∨ Cond.sameField ref D n d ∈ lw_all)
theorem FL.of {own D n d : String} {idx : Nat} (h : Cond.fieldLink own idx D n d ∈ lw_all) : FL own idx D n d := ⟨D, Or.inl h, Or.inl rfl⟩
theorem FL.nest {own D n d host : String} {idx : Nat} (h : Cond.fieldLinkNest own idx D n d host ∈ lw_tbl) : FL own idx D n d := ⟨D, Or.inr ⟨host, h⟩, Or.inl rfl⟩
theorem FL.up {own ref D n d : String} {idx : Nat} (h : Cond.fieldLink own idx ref n d ∈ lw_all) (h2 : Cond.sameField ref D n d ∈ lw_all) : FL own idx D n d := ⟨ref, Or.inl h, Or.inr h2⟩
theorem AK.nestF {g : AG} {s : State} {args : Array Value} {a b n d h : String} {i : Nat} (hA : AK g s) (hw : Cond.fieldLinkNest a i b n d h ∈ lw_tbl) : (Cond.fieldLinkNest a i b n d h).before args s = true := by
  obtain ⟨⟨⟨b0, -, h1, -⟩, -⟩, hW⟩ := hA
  exact va_Nw.use rfl (va_Nw.warmF hW (va_Nw.of rfl (h1 _ hw)))
theorem AK.nestM {g : AG} {s : State} {args : Array Value} {a h : String} {i : Nat} {x : MethodName} (hA : AK g s) (hw : Cond.methodLinkNest a i x h ∈ lw_tbl) : (Cond.methodLinkNest a i x h).before args s = true := by
  obtain ⟨⟨⟨b0, -, h1, -⟩, -⟩, hW⟩ := hA
  exact va_Nw.use rfl (va_Nw.warmM hW (va_Nw.of rfl (h1 _ hw)))
theorem AK.decl {g : AG} {s : State} {x : MethodName} (hA : AK g s) (hw : Cond.declares x ∈ lw_tbl) : va_Nw (.declares x) s := by
  obtain ⟨⟨⟨b0, -, h1, -⟩, -⟩, hW⟩ := hA
  exact va_Nw.warmD hW (va_Nw.of rfl (h1 _ hw))
theorem AK.castable {g : AG} {s : State} {C T : String} (hA : AK g s) (hw : Cond.castable C T ∈ lw_tbl) : va_Nw (.castable C T) s := by
  obtain ⟨⟨⟨b0, -, h1, -⟩, -⟩, hW⟩ := hA
  exact va_Nw.warmC hW (va_Nw.of rfl (h1 _ hw))
theorem AK.over {g : AG} {s : State} {C : String} (hA : AK g s) (hw : Cond.arrayOver (.object C) ∈ lw_tbl) : va_AO C s := by
  obtain ⟨⟨⟨b0, -, h1, -⟩, -⟩, hW⟩ := hA
  exact va_AO.moved hW.alike (va_AO.of (h1 _ hw))
theorem fit_b (x : Int32) : fits .byte (.int x.toInt8.toInt32) = true := by
  show ((-128 : Int32) ≤ x.toInt8.toInt32 && x.toInt8.toInt32 ≤ 127) = true
  have h1 : x.toInt8.toInt32.toInt = x.toInt8.toInt := Int8.toInt_toInt32 _
  have h2 := Int8.le_toInt x.toInt8
  have h3 := Int8.toInt_lt x.toInt8
  simp only [Bool.and_eq_true, decide_eq_true_eq]
  rw [Int32.le_iff_toInt_le, Int32.le_iff_toInt_le, h1]
  constructor
  · show (-128 : Int) ≤ _
    omega
  · show _ ≤ (127 : Int)
    omega
theorem fit_s (x : Int32) : fits .short (.int x.toInt16.toInt32) = true := by
  show ((-32768 : Int32) ≤ x.toInt16.toInt32 && x.toInt16.toInt32 ≤ 32767) = true
  have h1 : x.toInt16.toInt32.toInt = x.toInt16.toInt := Int16.toInt_toInt32 _
  have h2 := Int16.le_toInt x.toInt16
  have h3 := Int16.toInt_lt x.toInt16
  simp only [Bool.and_eq_true, decide_eq_true_eq]
  rw [Int32.le_iff_toInt_le, Int32.le_iff_toInt_le, h1]
  constructor
  · show (-32768 : Int) ≤ _
    omega
  · show _ ≤ (32767 : Int)
    omega
theorem fit_z (x : Int32) : fits .boolean (.int (x &&& 1)) = true := by
  show ((x &&& 1) == 0 || (x &&& 1) == 1) = true
  have h : (x &&& 1).toBitVec = 0#32 ∨ (x &&& 1).toBitVec = 1#32 := by
    have e : (x &&& 1).toBitVec.toNat = x.toBitVec.toNat % 2 := by
      rw [Int32.toBitVec_and, BitVec.toNat_and]
      exact Nat.and_one_is_mod _
    rcases Nat.mod_two_eq_zero_or_one x.toBitVec.toNat with z | z
    · exact Or.inl (BitVec.eq_of_toNat_eq (by rw [e, z]; rfl))
    · exact Or.inr (BitVec.eq_of_toNat_eq (by rw [e, z]; rfl))
  rcases h with z | z
  · have : x &&& 1 = 0 := Int32.toBitVec_inj.mp z
    rw [this]; rfl
  · have : x &&& 1 = 1 := Int32.toBitVec_inj.mp z
    rw [this]; rfl
theorem fit_c (x : Int32) : fits .char (.int (x.toUInt32 % 65536).toInt32) = true := pk_fc x
def isI (ty : FieldType) : Bool := match ty with
  | .long | .object _ | .array _ | .float | .double => false
  | _ => true
def isP (ty : FieldType) : Bool := match ty with
  | .object _ | .array _ => true
  | _ => false
theorem fv_I {h : AH} {ty : FieldType} {a f : Nat} (e : isI ty = true) : fv h ty a f = .int (hI h a f) := by cases ty <;> first | rfl | cases e
theorem fv_P {h : AH} {ty : FieldType} {a f : Nat} (e : isP ty = true) : fv h ty a f = .ref (hP h a f) := by cases ty <;> first | rfl | cases e
def FOI (k f : Nat) (D n d : String) : Prop := FO k f D n d ∧ isI (aty k f) = true
def FOP (k f : Nat) (D n d : String) : Prop := FO k f D n d ∧ isP (aty k f) = true
theorem FOI.at {k k' f : Nat} {D n d : String} (h : FOI k f D n d) (e : k' = k) : FOI k' f D n d := e ▸ h
theorem FOP.at {k k' f : Nat} {D n d : String} (h : FOP k f D n d) (e : k' = k) : FOP k' f D n d := e ▸ h
section RH
variable {M : AMt} {d : Nat} {post : Option Value → AH → Prop} {px : Nat → AH → Prop} {rc rs pc : Nat} {ls : List (Nat × Value)} {st : List Value} {h : AH}
theorem s_getf {idx a f : Nat} {D n ds : String} (hd : decode (mC M) pc = .ok (.getfield idx, 3)) (hl0 : FL (mY M).cls idx D n ds) (hk : FO (hK h a) f D n ds) (k : AW M d post px rc rs (pc + 3) ls (fv h (aty (hK h a) f) a f :: st) h) : AW M d post px rc rs pc ls (.ref a :: st) h := by
  intro g p l e R s m args below meth c mc ms F H locs cells slots lsA hR hL hl hc hs
  obtain ⟨k9, k0, kf0, q, e1, e2, e3, e4⟩ := hk
  obtain ⟨cell, c1, c2, c3, c4⟩ := hR.cell k0 (by omega)
  have hown := F.2.2.2.2.2.1
  have hts := F.2.2.2.2.2.2.1
  have hA : AK g s := F.2.2.2.2.2.2.2.2.2.2.2
  obtain ⟨hS, hfc, kC, hkC, hkind⟩ := hA.kn.1 _ _ e1
  have hfN : f < q.2.2 := by rw [← acl_kn e1]; exact kf0
  obtain ⟨cf, kf, fi, fd, hi, hsl⟩ := hS f hfN
  have hst := (u_facts hfc hkC (u_lays hts (acl_in e1) hfN) hi).1
  rw [e2, e3, e4] at hi
  obtain ⟨ref, hlk, hsm⟩ := hl0
  have hi' : s.fieldFound? ref n ds = some (cf, kf, fi, fd) := by
    rcases hsm with e | hq
    · rw [e]; exact hi
    · exact u_same (hts _ hq) _ hi
  have h0 : a ≠ 0 := by have := (hR.2.2.1 a k0).1; omega
  have hslot : cell.slots[fd.slot]? = some (tv g (fv h (aty (hK h a) f) a f)) := by rw [hsl]; exact c4 f kf0
  have K := k g p l e R s m args below meth c mc ms F H locs cells slots lsA hR hL hl hc hs
  rw [List.map_cons, tv_p g h0]
  rcases hlk with hq | ⟨host, hq⟩
  · exact W.getf F.1 F.2.2.1 hown (hts _ hq) hi' hst c1 (by rw [c3]; exact fun z => by cases z) hslot rfl rfl hd K
  · exact va_Wgetf F.1 F.2.2.1 hown (hA.nestF hq) hi' hst c1 (by rw [c3]; exact fun z => by cases z) hslot rfl rfl hd K
theorem s_getI {idx a f : Nat} {D n ds : String} (hd : decode (mC M) pc = .ok (.getfield idx, 3)) (hl0 : FL (mY M).cls idx D n ds) (hk : FOI (hK h a) f D n ds) (k : AW M d post px rc rs (pc + 3) ls (.int (hI h a f) :: st) h) : AW M d post px rc rs pc ls (.ref a :: st) h :=
  s_getf hd hl0 hk.1 (by rw [fv_I hk.2]; exact k)
theorem s_getP {idx a f b : Nat} {D n ds : String} (hd : decode (mC M) pc = .ok (.getfield idx, 3)) (hl0 : FL (mY M).cls idx D n ds) (hk : FOP (hK h a) f D n ds) (hb : hP h a f = b) (k : AW M d post px rc rs (pc + 3) ls (.ref b :: st) h) : AW M d post px rc rs pc ls (.ref a :: st) h :=
  s_getf hd hl0 hk.1 (by rw [fv_P hk.2, hb]; exact k)
/-- is the field final -/
def FN (k f : Nat) : Bool := match acl[k]? with
  | some q => (q.2.1 f).2.2.2
  | none => false
theorem s_putf {h' : AH} {idx a f : Nat} {v : Value} {D n ds : String} (hd : decode (mC M) pc = .ok (.putfield idx, 3)) (hl0 : FL (mY M).cls idx D n ds) (hk : FO (hK h a) f D n ds) (h16 : 16 ≤ a) (hfin : FN (hK h a) f = false ∨ (D = (mY M).cls ∧ (mY M).name = "<init>"))
    (hv : ∀ g : AG, narrow (aty (hK h a) f) (tv g v) = tv g v ∧ fits (aty (hK h a) f) (tv g v) = true) (hk' : ∀ b, hK h' b = hK h b) (hn' : ∀ b, hN h' b = hN h b) (hx' : hX h' = hX h) (ho : ∀ b j, ¬ (b = a ∧ j = f) → ∀ ty, fv h' ty b j = fv h ty b j) (hvv : fv h' (aty (hK h a) f) a f = v)
    (k : AW M d post px rc rs (pc + 3) ls st h') : AW M d post px rc rs pc ls (v :: .ref a :: st) h := by
  intro g p l e R s m args below meth c mc ms F H locs cells slots lsA hR hL hl hc hs
  obtain ⟨k9, k0, kf0, q, e1, e2, e3, e4⟩ := hk
  obtain ⟨cell, c1, c2, c3, c4⟩ := hR.cell k0 (by omega)
  have hown := F.2.2.2.2.2.1
  have hts := F.2.2.2.2.2.2.1
  have hA : AK g s := F.2.2.2.2.2.2.2.2.2.2.2
  obtain ⟨hS, hfc, kC, hkC, hkind⟩ := hA.kn.1 _ _ e1
  have hfN : f < q.2.2 := by rw [← acl_kn e1]; exact kf0
  obtain ⟨cf, kf, fi, fd, hi, hsl⟩ := hS f hfN
  have hst := (u_facts hfc hkC (u_lays hts (acl_in e1) hfN) hi).1
  have hdd := acl_ty e1 f hfN
  have hlay := hts _ (acl_in e1 _ (u_in_lay hfN))
  have hFN : FN (hK h a) f = (q.2.1 f).2.2.2 := by unfold FN; rw [e1]
  have h6 := u_fits hfc hkC hkind (u_lays hts (acl_in e1) hfN) hi hdd (hv g).1 (hv g).2
  have hfin2 : hasFlag fd.accessFlags Acc.final = false ∨ (m.cls = cf ∧ meth.name = "<init>") := by
    unfold u_lay at hlay
    by_cases hb : (q.2.1 f).2.2.2 = true
    · rw [if_pos hb] at hlay
      rcases hfin with z | ⟨z1, z2⟩
      · rw [hFN, hb] at z; cases z
      · refine Or.inr ⟨?_, by rw [F.2.2.2.2.2.2.2.2.2.1]; exact z2⟩
        obtain ⟨_, _, c', _, _, _, -, -, hf', -, -, -, hown2, -⟩ := Cond.laysFinal_spec hlay
        have q1 : c' = cf := by have := hi.symm.trans hf'; simp at this; exact this.1.symm
        rw [e2, z1] at hown2
        rw [← q1]; exact Option.some.inj (hown.symm.trans hown2)
    · rw [if_neg hb] at hlay
      exact Or.inl (u_store hfc hkC hkind hlay hi hdd (hv g).1 (hv g).2).1
  rw [e2, e3, e4] at hi
  obtain ⟨ref, hlk, hsm⟩ := hl0
  have hi' : s.fieldFound? ref n ds = some (cf, kf, fi, fd) := by
    rcases hsm with z | hq
    · rw [z]; exact hi
    · exact u_same (hts _ hq) _ hi
  have h0 : a ≠ 0 := by omega
  have hlt : fd.slot < cell.slots.size := by rw [hsl]; exact k2_hasslot (c4 f kf0)
  have haH : ad g a < H.size := (Array.getElem?_eq_some_iff.mp c1).1
  have e9 : (H.setIfInBounds (ad g a) (cell.setSlot fd.slot (tv g v)))[ad g a]? = some (cell.setSlot (gF g (hK h a) f) (tv g v)) := by
    rw [show gF g (hK h a) f = fd.slot from hsl.symm]
    simp [Array.getElem?_setIfInBounds, haH]
  have hoth : ∀ z, z ≠ ad g a → (H.setIfInBounds (ad g a) (cell.setSlot fd.slot (tv g v)))[z]? = H[z]? := fun z hz => by simp [Array.getElem?_setIfInBounds, Ne.symm hz]
  have hR' : AR g h' (H.setIfInBounds (ad g a) (cell.setSlot fd.slot (tv g v))) :=
    hR.upd hk' hn' hx' h16 k0 (fun b hb ty j => ho b j (fun z => hb z.1) ty) (by simp) hoth (fun _ => AObj.set hR hA.1 k0 k9 c1 kf0 (hk' a) (by rw [hvv]) (fun ty j hj => ho a j (fun z => hj z.2) ty) e9) (fun z => by omega)
  have K := k g p l e R s m args below meth c mc ms F _ (locs ++ [⟨ad g a, fd.slot⟩]) cells slots lsA hR' (fun z hz => by
    rcases List.mem_append.mp hz with z1 | z1
    · exact hL z z1
    · rw [List.mem_singleton.mp z1]
      exact ad_ge g h16) hl hc hs
  have hfit : s.fitsSlot cell.cls cell.vm fd.slot (tv g v) = true := by rw [c2, c3]; exact h6.2
  rw [List.map_cons, List.map_cons, tv_p g h0]
  rcases hlk with hq | ⟨host, hq⟩
  · exact W.putf F.1 F.2.2.1 hown (hts _ hq) hi' hst hfin2 c1 (by rw [c3]; exact fun z => by cases z) hlt h6.1 hfit rfl rfl hd K
  · exact va_Wputf F.1 F.2.2.1 hown (hA.nestF hq) hi' hst hfin2 c1 (by rw [c3]; exact fun z => by cases z) hlt h6.1 hfit rfl rfl hd K
theorem s_putI {idx a f : Nat} {v : Int32} {D n ds : String} (hd : decode (mC M) pc = .ok (.putfield idx, 3)) (hl0 : FL (mY M).cls idx D n ds) (hk : FOI (hK h a) f D n ds) (h16 : 16 ≤ a) (hfin : FN (hK h a) f = false ∨ (D = (mY M).cls ∧ (mY M).name = "<init>"))
    (hv : narrow (aty (hK h a) f) (.int v) = .int v ∧ fits (aty (hK h a) f) (.int v) = true) (k : AW M d post px rc rs (pc + 3) ls st (sI h a f v)) : AW M d post px rc rs pc ls (.int v :: .ref a :: st) h :=
  s_putf (h' := sI h a f v) hd hl0 hk.1 h16 hfin (fun g => hv) (fun _ => rfl) (fun _ => rfl) rfl (fun b j hb ty => fv_sI hb) (by rw [fv_I hk.2, hI_sI]) k
/-- a field of type int -/
theorem s_putJ {idx a f : Nat} {v : Int32} {D n ds : String} (hd : decode (mC M) pc = .ok (.putfield idx, 3)) (hl0 : FL (mY M).cls idx D n ds) (hk : FOI (hK h a) f D n ds) (h16 : 16 ≤ a) (hfin : FN (hK h a) f = false ∨ (D = (mY M).cls ∧ (mY M).name = "<init>"))
    (hty : aty (hK h a) f = .int) (k : AW M d post px rc rs (pc + 3) ls st (sI h a f v)) : AW M d post px rc rs pc ls (.int v :: .ref a :: st) h :=
  s_putI hd hl0 hk h16 hfin (by rw [hty]; exact ⟨rfl, rfl⟩) k
theorem s_putP {idx a f v : Nat} {D n ds : String} (hd : decode (mC M) pc = .ok (.putfield idx, 3)) (hl0 : FL (mY M).cls idx D n ds) (hk : FOP (hK h a) f D n ds) (h16 : 16 ≤ a) (hfin : FN (hK h a) f = false ∨ (D = (mY M).cls ∧ (mY M).name = "<init>"))
    (k : AW M d post px rc rs (pc + 3) ls st (sP h a f v)) : AW M d post px rc rs pc ls (.ref v :: .ref a :: st) h := by
  refine s_putf (h' := sP h a f v) hd hl0 hk.1 h16 hfin (fun g => ?_) (fun _ => rfl) (fun _ => rfl) rfl (fun b j hb ty => fv_sP hb) (by rw [fv_P hk.2, hP_sP]) k
  have h2 := hk.2
  revert h2
  by_cases h0 : v = 0
  · rw [h0, tv_0]
    cases aty (hK h a) f <;> intro h2 <;> first | exact ⟨rfl, rfl⟩ | cases h2
  · rw [tv_p g h0]
    cases aty (hK h a) f <;> intro h2 <;> first | exact ⟨rfl, rfl⟩ | cases h2
/-- a place in an array -/
def ix (i : Int32) (j n : Nat) : Prop := ¬ i < 0 ∧ i.toNatClampNeg = j ∧ j < n
theorem ix_nI {j n : Nat} (h : j < n) (hn : n ≤ 2 ^ 31) : ix (nI j) j n := ⟨nI_pos (by omega), nI_clamp (by omega), h⟩
theorem AK.ty {g : AG} {s : State} (hA : AK g s) {j : Nat} {ty : FieldType} (hj : ael[j]? = some ty) : ArrOfT s (gA g j) ty ∧ va_RA s (gA g j) ty := by
  refine hA.kn.2 j (gA g j, ty) ?_
  unfold atys
  rw [List.getElem?_map, List.getElem?_zipIdx, hj]
  simp
theorem aelt_of {j : Nat} {ty : FieldType} (hj : ael[j]? = some ty) : aelt (100 + j) = ty := by
  unfold aelt
  rw [Nat.add_sub_cancel_left, hj]
  rfl
theorem arrIs {g : AG} {s : State} {cell : Cell} {j : Nat} {ty : FieldType} (hA : AK g s) (hj : ael[j]? = some ty) (h1 : cell.cls = gA g j) (h2 : cell.vm = .none) : s.isArrayOf cell ty := by
  obtain ⟨-, k, hk, comp, hkind⟩ := (hA.ty hj).1 0 (fun _ => .null)
  exact ⟨fun z q => (by rw [h2] at q; cases q), k, (by rw [h1]; exact hk), comp, hkind⟩
theorem arrSz {cell : Cell} {cA : ClassId} {n : Nat} {f : Nat → Value} (h : cell.slots = (arrV cA n f).slots) : cell.slots.size = n := by rw [h]; exact arrV_size cA n f
theorem s_alen {a j : Nat} {ty : FieldType} (hd : decode (mC M) pc = .ok (.arraylength, 1)) (hk : hK h a = 100 + j) (hj : ael[j]? = some ty) {n : Nat} (hn : hN h a = n) (k : AW M d post px rc rs (pc + 1) ls (.int (nI n) :: st) h) : AW M d post px rc rs pc ls (.ref a :: st) h := by
  intro g p l e R s m args below meth c mc ms F H locs cells slots lsA hR hL hl hc hs
  obtain ⟨cell, c1, c2, c3, c4⟩ := hR.arr (a := a) (by omega)
  have hA : AK g s := F.2.2.2.2.2.2.2.2.2.2.2
  have h0 : a ≠ 0 := by have := (hR.2.2.1 a (by omega)).1; omega
  rw [hk, Nat.add_sub_cancel_left] at c2
  subst hn
  rw [List.map_cons, tv_p g h0]
  exact W.alen (n := nI (hN h a)) F.1 F.2.2.1 c1 (arrIs hA hj c2 c3) (by rw [arrSz c4]; rfl) rfl rfl hd (k g p l e R s m args below meth c mc ms F H locs cells slots lsA hR hL hl hc hs)
theorem s_iald {a j : Nat} {i : Int32} (hd : decode (mC M) pc = .ok (.iaload, 1)) (hk : hK h a = 100) (hi : ix i j (hN h a)) (k : AW M d post px rc rs (pc + 1) ls (.int (hI h a j) :: st) h) : AW M d post px rc rs pc ls (.int i :: .ref a :: st) h := by
  intro g p l e R s m args below meth c mc ms F H locs cells slots lsA hR hL hl hc hs
  obtain ⟨cell, c1, c2, c3, c4⟩ := hR.arr (a := a) (by omega)
  have hA : AK g s := F.2.2.2.2.2.2.2.2.2.2.2
  have h0 : a ≠ 0 := by have := (hR.2.2.1 a (by omega)).1; omega
  rw [hk] at c2 c4
  obtain ⟨i1, i2, i3⟩ := hi
  have hv : cell.slots[i.toNatClampNeg]? = some (.int (hI h a j)) := by rw [c4, i2, arrV_read _ _ i3]; rfl
  show W p l e R s m args below meth c H locs cells slots _ (F0 m pc lsA (.int i :: tv g (.ref a) :: st.map (tv g)))
  rw [tv_p g h0]
  exact W.iald F.1 F.2.2.1 c1 (arrIs (j := 0) hA rfl c2 c3) (by rw [c3]; exact fun z => by cases z) (by rw [arrSz c4, i2]; exact fun z => z.elim i1 (by omega)) hv rfl rfl hd (k g p l e R s m args below meth c mc ms F H locs cells slots lsA hR hL hl hc hs)
theorem s_bald {a j : Nat} {i : Int32} (hd : decode (mC M) pc = .ok (.baload, 1)) (hk : hK h a = 101) (hi : ix i j (hN h a)) (k : AW M d post px rc rs (pc + 1) ls (.int (hI h a j) :: st) h) : AW M d post px rc rs pc ls (.int i :: .ref a :: st) h := by
  intro g p l e R s m args below meth c mc ms F H locs cells slots lsA hR hL hl hc hs
  obtain ⟨cell, c1, c2, c3, c4⟩ := hR.arr (a := a) (by omega)
  have hA : AK g s := F.2.2.2.2.2.2.2.2.2.2.2
  have h0 : a ≠ 0 := by have := (hR.2.2.1 a (by omega)).1; omega
  rw [hk] at c2 c4
  obtain ⟨i1, i2, i3⟩ := hi
  have hv : cell.slots[i.toNatClampNeg]? = some (.int (hI h a j)) := by rw [c4, i2, arrV_read _ _ i3]; rfl
  show W p l e R s m args below meth c H locs cells slots _ (F0 m pc lsA (.int i :: tv g (.ref a) :: st.map (tv g)))
  rw [tv_p g h0]
  exact W.bald F.1 F.2.2.1 c1 (arrIs (j := 1) hA rfl c2 c3) (by rw [c3]; exact fun z => by cases z) (by rw [arrSz c4, i2]; exact fun z => z.elim i1 (by omega)) hv rfl rfl hd (k g p l e R s m args below meth c mc ms F H locs cells slots lsA hR hL hl hc hs)
theorem s_sald {a j : Nat} {i : Int32} (hd : decode (mC M) pc = .ok (.saload, 1)) (hk : hK h a = 102) (hi : ix i j (hN h a)) (k : AW M d post px rc rs (pc + 1) ls (.int (hI h a j) :: st) h) : AW M d post px rc rs pc ls (.int i :: .ref a :: st) h := by
  intro g p l e R s m args below meth c mc ms F H locs cells slots lsA hR hL hl hc hs
  obtain ⟨cell, c1, c2, c3, c4⟩ := hR.arr (a := a) (by omega)
  have hA : AK g s := F.2.2.2.2.2.2.2.2.2.2.2
  have h0 : a ≠ 0 := by have := (hR.2.2.1 a (by omega)).1; omega
  rw [hk] at c2 c4
  obtain ⟨i1, i2, i3⟩ := hi
  have hv : cell.slots[i.toNatClampNeg]? = some (.int (hI h a j)) := by rw [c4, i2, arrV_read _ _ i3]; rfl
  show W p l e R s m args below meth c H locs cells slots _ (F0 m pc lsA (.int i :: tv g (.ref a) :: st.map (tv g)))
  rw [tv_p g h0]
  exact W.sald F.1 F.2.2.1 c1 (arrIs (j := 2) hA rfl c2 c3) (by rw [c3]; exact fun z => by cases z) (by rw [arrSz c4, i2]; exact fun z => z.elim i1 (by omega)) hv rfl rfl hd (k g p l e R s m args below meth c mc ms F H locs cells slots lsA hR hL hl hc hs)
theorem s_lald {a j : Nat} {i : Int32} (hd : decode (mC M) pc = .ok (.laload, 1)) (hk : hK h a = 103) (hi : ix i j (hN h a)) (k : AW M d post px rc rs (pc + 1) ls (.long (hJ h a j) :: st) h) : AW M d post px rc rs pc ls (.int i :: .ref a :: st) h := by
  intro g p l e R s m args below meth c mc ms F H locs cells slots lsA hR hL hl hc hs
  obtain ⟨cell, c1, c2, c3, c4⟩ := hR.arr (a := a) (by omega)
  have hA : AK g s := F.2.2.2.2.2.2.2.2.2.2.2
  have h0 : a ≠ 0 := by have := (hR.2.2.1 a (by omega)).1; omega
  rw [hk] at c2 c4
  obtain ⟨i1, i2, i3⟩ := hi
  have hv : cell.slots[i.toNatClampNeg]? = some (.long (hJ h a j)) := by rw [c4, i2, arrV_read _ _ i3]; rfl
  show W p l e R s m args below meth c H locs cells slots _ (F0 m pc lsA (.int i :: tv g (.ref a) :: st.map (tv g)))
  rw [tv_p g h0]
  exact W.lald F.1 F.2.2.1 c1 (arrIs (j := 3) hA rfl c2 c3) (by rw [c3]; exact fun z => by cases z) (by rw [arrSz c4, i2]; exact fun z => z.elim i1 (by omega)) hv rfl rfl hd (k g p l e R s m args below meth c mc ms F H locs cells slots lsA hR hL hl hc hs)
theorem s_zald {a j : Nat} {i : Int32} (hd : decode (mC M) pc = .ok (.baload, 1)) (hk : hK h a = 104) (hi : ix i j (hN h a)) (k : AW M d post px rc rs (pc + 1) ls (.int (hI h a j) :: st) h) : AW M d post px rc rs pc ls (.int i :: .ref a :: st) h := by
  intro g p l e R s m args below meth c mc ms F H locs cells slots lsA hR hL hl hc hs
  obtain ⟨cell, c1, c2, c3, c4⟩ := hR.arr (a := a) (by omega)
  have hA : AK g s := F.2.2.2.2.2.2.2.2.2.2.2
  have h0 : a ≠ 0 := by have := (hR.2.2.1 a (by omega)).1; omega
  rw [hk] at c2 c4
  obtain ⟨i1, i2, i3⟩ := hi
  have hv : cell.slots[i.toNatClampNeg]? = some (.int (hI h a j)) := by rw [c4, i2, arrV_read _ _ i3]; rfl
  show W p l e R s m args below meth c H locs cells slots _ (F0 m pc lsA (.int i :: tv g (.ref a) :: st.map (tv g)))
  rw [tv_p g h0]
  exact W.zald F.1 F.2.2.1 c1 (arrIs (j := 4) hA rfl c2 c3) (by rw [c3]; exact fun z => by cases z) (by rw [arrSz c4, i2]; exact fun z => z.elim i1 (by omega)) hv rfl rfl hd (k g p l e R s m args below meth c mc ms F H locs cells slots lsA hR hL hl hc hs)
theorem s_cald {a j : Nat} {i : Int32} (hd : decode (mC M) pc = .ok (.caload, 1)) (hk : hK h a = 105) (hi : ix i j (hN h a)) (k : AW M d post px rc rs (pc + 1) ls (.int (hI h a j) :: st) h) : AW M d post px rc rs pc ls (.int i :: .ref a :: st) h := by
  intro g p l e R s m args below meth c mc ms F H locs cells slots lsA hR hL hl hc hs
  obtain ⟨cell, c1, c2, c3, c4⟩ := hR.arr (a := a) (by omega)
  have hA : AK g s := F.2.2.2.2.2.2.2.2.2.2.2
  have h0 : a ≠ 0 := by have := (hR.2.2.1 a (by omega)).1; omega
  rw [hk] at c2 c4
  obtain ⟨i1, i2, i3⟩ := hi
  have hv : cell.slots[i.toNatClampNeg]? = some (.int (hI h a j)) := by rw [c4, i2, arrV_read _ _ i3]; rfl
  show W p l e R s m args below meth c H locs cells slots _ (F0 m pc lsA (.int i :: tv g (.ref a) :: st.map (tv g)))
  rw [tv_p g h0]
  exact W.cald F.1 F.2.2.1 c1 (arrIs (j := 5) hA rfl c2 c3) (by rw [c3]; exact fun z => by cases z) (by rw [arrSz c4, i2]; exact fun z => z.elim i1 (by omega)) hv rfl rfl hd (k g p l e R s m args below meth c mc ms F H locs cells slots lsA hR hL hl hc hs)
theorem s_aald {a j jj b : Nat} {C : String} {i : Int32} (hd : decode (mC M) pc = .ok (.aaload, 1)) (hk : hK h a = 100 + jj) (hj : ael[jj]? = some (.object C)) (hi : ix i j (hN h a)) (hb : hP h a j = b) (k : AW M d post px rc rs (pc + 1) ls (.ref b :: st) h) : AW M d post px rc rs pc ls (.int i :: .ref a :: st) h := by
  intro g p l e R s m args below meth c mc ms F H locs cells slots lsA hR hL hl hc hs
  subst hb
  obtain ⟨cell, c1, c2, c3, c4⟩ := hR.arr (a := a) (by omega)
  have hA : AK g s := F.2.2.2.2.2.2.2.2.2.2.2
  have h0 : a ≠ 0 := by have := (hR.2.2.1 a (by omega)).1; omega
  rw [hk, aelt_of hj] at c4
  rw [hk, Nat.add_sub_cancel_left] at c2
  obtain ⟨i1, i2, i3⟩ := hi
  have hv : cell.slots[i.toNatClampNeg]? = some (tv g (.ref (hP h a j))) := by rw [c4, i2, arrV_read _ _ i3]; rfl
  show W p l e R s m args below meth c H locs cells slots _ (F0 m pc lsA (.int i :: tv g (.ref a) :: st.map (tv g)))
  rw [tv_p g h0]
  exact W.aald F.1 F.2.2.1 c1 (arrIs hA hj c2 c3) rfl (by rw [c3]; exact fun z => by cases z) (by rw [arrSz c4, i2]; exact fun z => z.elim i1 (by omega)) hv rfl rfl hd (k g p l e R s m args below meth c mc ms F H locs cells slots lsA hR hL hl hc hs)
theorem s_iast {a j : Nat} {i : Int32} {x : Int32} (hd : decode (mC M) pc = .ok (.iastore, 1)) (hk : hK h a = 100) (h16 : 16 ≤ a) (hi : ix i j (hN h a)) (k : AW M d post px rc rs (pc + 1) ls st (sI h a j x)) : AW M d post px rc rs pc ls (.int x :: .int i :: .ref a :: st) h := by
  intro g p l e R s m args below meth c mc ms F H locs cells slots lsA hR hL hl hc hs
  obtain ⟨cell, c1, c2, c3, c4⟩ := hR.arr (a := a) (by omega)
  have hA : AK g s := F.2.2.2.2.2.2.2.2.2.2.2
  have h0 : a ≠ 0 := by omega
  rw [hk] at c2 c4
  obtain ⟨i1, i2, i3⟩ := hi
  show W p l e R s m args below meth c H locs cells slots _ (F0 m pc lsA (.int x :: .int i :: tv g (.ref a) :: st.map (tv g)))
  rw [tv_p g h0]
  refine W.iast F.1 F.2.2.1 c1 (arrIs (j := 0) hA rfl c2 c3) (by rw [c3]; exact fun z => by cases z) (by rw [arrSz c4, i2]; exact fun z => z.elim i1 (by omega)) rfl rfl hd (fun H' e1 e2 e3 => ?_)
  rw [i2] at e1
  have hR' : AR g (sI h a j x) H' := hR.upd (fun _ => rfl) (fun _ => rfl) rfl h16 (by omega) (fun b hb ty f => fv_sI (fun z => hb z.1)) e2 e3 (fun z => by omega)
    (fun z => AArr.set hR z c1 (by rw [hk]; show tv g (.int (hI (sI h a j x) a j)) = _; rw [hI_sI]; rfl) (fun ty f hf => fv_sI (fun z => hf z.2)) (by rw [hk]; exact rfl) e1)
  rw [i2]
  exact k g p l e R s m args below meth c mc ms F H' (locs ++ [⟨ad g a, j⟩]) cells slots lsA hR' (fun z hz => by
    rcases List.mem_append.mp hz with z1 | z1
    · exact hL z z1
    · rw [List.mem_singleton.mp z1]
      exact ad_ge g h16) hl hc hs
theorem s_bast {a j : Nat} {i : Int32} {x : Int32} (hd : decode (mC M) pc = .ok (.bastore, 1)) (hk : hK h a = 101) (h16 : 16 ≤ a) (hi : ix i j (hN h a)) (k : AW M d post px rc rs (pc + 1) ls st (sI h a j x.toInt8.toInt32)) : AW M d post px rc rs pc ls (.int x :: .int i :: .ref a :: st) h := by
  intro g p l e R s m args below meth c mc ms F H locs cells slots lsA hR hL hl hc hs
  obtain ⟨cell, c1, c2, c3, c4⟩ := hR.arr (a := a) (by omega)
  have hA : AK g s := F.2.2.2.2.2.2.2.2.2.2.2
  have h0 : a ≠ 0 := by omega
  rw [hk] at c2 c4
  obtain ⟨i1, i2, i3⟩ := hi
  show W p l e R s m args below meth c H locs cells slots _ (F0 m pc lsA (.int x :: .int i :: tv g (.ref a) :: st.map (tv g)))
  rw [tv_p g h0]
  refine W.bast F.1 F.2.2.1 c1 (arrIs (j := 1) hA rfl c2 c3) (by rw [c3]; exact fun z => by cases z) (by rw [arrSz c4, i2]; exact fun z => z.elim i1 (by omega)) rfl rfl hd (fun H' e1 e2 e3 => ?_)
  rw [i2] at e1
  have hR' : AR g (sI h a j x.toInt8.toInt32) H' := hR.upd (fun _ => rfl) (fun _ => rfl) rfl h16 (by omega) (fun b hb ty f => fv_sI (fun z => hb z.1)) e2 e3 (fun z => by omega)
    (fun z => AArr.set hR z c1 (by rw [hk]; show tv g (.int (hI (sI h a j x.toInt8.toInt32) a j)) = _; rw [hI_sI]; rfl) (fun ty f hf => fv_sI (fun z => hf z.2)) (by rw [hk]; exact fit_b x) e1)
  rw [i2]
  exact k g p l e R s m args below meth c mc ms F H' (locs ++ [⟨ad g a, j⟩]) cells slots lsA hR' (fun z hz => by
    rcases List.mem_append.mp hz with z1 | z1
    · exact hL z z1
    · rw [List.mem_singleton.mp z1]
      exact ad_ge g h16) hl hc hs
theorem s_sast {a j : Nat} {i : Int32} {x : Int32} (hd : decode (mC M) pc = .ok (.sastore, 1)) (hk : hK h a = 102) (h16 : 16 ≤ a) (hi : ix i j (hN h a)) (k : AW M d post px rc rs (pc + 1) ls st (sI h a j x.toInt16.toInt32)) : AW M d post px rc rs pc ls (.int x :: .int i :: .ref a :: st) h := by
  intro g p l e R s m args below meth c mc ms F H locs cells slots lsA hR hL hl hc hs
  obtain ⟨cell, c1, c2, c3, c4⟩ := hR.arr (a := a) (by omega)
  have hA : AK g s := F.2.2.2.2.2.2.2.2.2.2.2
  have h0 : a ≠ 0 := by omega
  rw [hk] at c2 c4
  obtain ⟨i1, i2, i3⟩ := hi
  show W p l e R s m args below meth c H locs cells slots _ (F0 m pc lsA (.int x :: .int i :: tv g (.ref a) :: st.map (tv g)))
  rw [tv_p g h0]
  refine W.sast F.1 F.2.2.1 c1 (arrIs (j := 2) hA rfl c2 c3) (by rw [c3]; exact fun z => by cases z) (by rw [arrSz c4, i2]; exact fun z => z.elim i1 (by omega)) rfl rfl hd (fun H' e1 e2 e3 => ?_)
  rw [i2] at e1
  have hR' : AR g (sI h a j x.toInt16.toInt32) H' := hR.upd (fun _ => rfl) (fun _ => rfl) rfl h16 (by omega) (fun b hb ty f => fv_sI (fun z => hb z.1)) e2 e3 (fun z => by omega)
    (fun z => AArr.set hR z c1 (by rw [hk]; show tv g (.int (hI (sI h a j x.toInt16.toInt32) a j)) = _; rw [hI_sI]; rfl) (fun ty f hf => fv_sI (fun z => hf z.2)) (by rw [hk]; exact fit_s x) e1)
  rw [i2]
  exact k g p l e R s m args below meth c mc ms F H' (locs ++ [⟨ad g a, j⟩]) cells slots lsA hR' (fun z hz => by
    rcases List.mem_append.mp hz with z1 | z1
    · exact hL z z1
    · rw [List.mem_singleton.mp z1]
      exact ad_ge g h16) hl hc hs
theorem s_last {a j : Nat} {i : Int32} {x : Int64} (hd : decode (mC M) pc = .ok (.lastore, 1)) (hk : hK h a = 103) (h16 : 16 ≤ a) (hi : ix i j (hN h a)) (k : AW M d post px rc rs (pc + 1) ls st (sJ h a j x)) : AW M d post px rc rs pc ls (.long x :: .int i :: .ref a :: st) h := by
  intro g p l e R s m args below meth c mc ms F H locs cells slots lsA hR hL hl hc hs
  obtain ⟨cell, c1, c2, c3, c4⟩ := hR.arr (a := a) (by omega)
  have hA : AK g s := F.2.2.2.2.2.2.2.2.2.2.2
  have h0 : a ≠ 0 := by omega
  rw [hk] at c2 c4
  obtain ⟨i1, i2, i3⟩ := hi
  show W p l e R s m args below meth c H locs cells slots _ (F0 m pc lsA (.long x :: .int i :: tv g (.ref a) :: st.map (tv g)))
  rw [tv_p g h0]
  refine W.last F.1 F.2.2.1 c1 (arrIs (j := 3) hA rfl c2 c3) (by rw [c3]; exact fun z => by cases z) (by rw [arrSz c4, i2]; exact fun z => z.elim i1 (by omega)) rfl rfl hd (fun H' e1 e2 e3 => ?_)
  rw [i2] at e1
  have hR' : AR g (sJ h a j x) H' := hR.upd (fun _ => rfl) (fun _ => rfl) rfl h16 (by omega) (fun b hb ty f => fv_sJ (fun z => hb z.1)) e2 e3 (fun z => by omega)
    (fun z => AArr.set hR z c1 (by rw [hk]; show tv g (.long (hJ (sJ h a j x) a j)) = _; rw [hJ_sJ]; rfl) (fun ty f hf => fv_sJ (fun z => hf z.2)) (by rw [hk]; exact rfl) e1)
  rw [i2]
  exact k g p l e R s m args below meth c mc ms F H' (locs ++ [⟨ad g a, j⟩]) cells slots lsA hR' (fun z hz => by
    rcases List.mem_append.mp hz with z1 | z1
    · exact hL z z1
    · rw [List.mem_singleton.mp z1]
      exact ad_ge g h16) hl hc hs
theorem s_zast {a j : Nat} {i : Int32} {x : Int32} (hd : decode (mC M) pc = .ok (.bastore, 1)) (hk : hK h a = 104) (h16 : 16 ≤ a) (hi : ix i j (hN h a)) (k : AW M d post px rc rs (pc + 1) ls st (sI h a j (x &&& 1))) : AW M d post px rc rs pc ls (.int x :: .int i :: .ref a :: st) h := by
  intro g p l e R s m args below meth c mc ms F H locs cells slots lsA hR hL hl hc hs
  obtain ⟨cell, c1, c2, c3, c4⟩ := hR.arr (a := a) (by omega)
  have hA : AK g s := F.2.2.2.2.2.2.2.2.2.2.2
  have h0 : a ≠ 0 := by omega
  rw [hk] at c2 c4
  obtain ⟨i1, i2, i3⟩ := hi
  show W p l e R s m args below meth c H locs cells slots _ (F0 m pc lsA (.int x :: .int i :: tv g (.ref a) :: st.map (tv g)))
  rw [tv_p g h0]
  refine W.zast F.1 F.2.2.1 c1 (arrIs (j := 4) hA rfl c2 c3) (by rw [c3]; exact fun z => by cases z) (by rw [arrSz c4, i2]; exact fun z => z.elim i1 (by omega)) rfl rfl hd (fun H' e1 e2 e3 => ?_)
  rw [i2] at e1
  have hR' : AR g (sI h a j (x &&& 1)) H' := hR.upd (fun _ => rfl) (fun _ => rfl) rfl h16 (by omega) (fun b hb ty f => fv_sI (fun z => hb z.1)) e2 e3 (fun z => by omega)
    (fun z => AArr.set hR z c1 (by rw [hk]; show tv g (.int (hI (sI h a j (x &&& 1)) a j)) = _; rw [hI_sI]; rfl) (fun ty f hf => fv_sI (fun z => hf z.2)) (by rw [hk]; exact fit_z x) e1)
  rw [i2]
  exact k g p l e R s m args below meth c mc ms F H' (locs ++ [⟨ad g a, j⟩]) cells slots lsA hR' (fun z hz => by
    rcases List.mem_append.mp hz with z1 | z1
    · exact hL z z1
    · rw [List.mem_singleton.mp z1]
      exact ad_ge g h16) hl hc hs
theorem s_cast {a j : Nat} {i : Int32} {x : Int32} (hd : decode (mC M) pc = .ok (.castore, 1)) (hk : hK h a = 105) (h16 : 16 ≤ a) (hi : ix i j (hN h a)) (k : AW M d post px rc rs (pc + 1) ls st (sI h a j (x.toUInt32 % 65536).toInt32)) : AW M d post px rc rs pc ls (.int x :: .int i :: .ref a :: st) h := by
  intro g p l e R s m args below meth c mc ms F H locs cells slots lsA hR hL hl hc hs
  obtain ⟨cell, c1, c2, c3, c4⟩ := hR.arr (a := a) (by omega)
  have hA : AK g s := F.2.2.2.2.2.2.2.2.2.2.2
  have h0 : a ≠ 0 := by omega
  rw [hk] at c2 c4
  obtain ⟨i1, i2, i3⟩ := hi
  show W p l e R s m args below meth c H locs cells slots _ (F0 m pc lsA (.int x :: .int i :: tv g (.ref a) :: st.map (tv g)))
  rw [tv_p g h0]
  refine W.cast F.1 F.2.2.1 c1 (arrIs (j := 5) hA rfl c2 c3) (by rw [c3]; exact fun z => by cases z) (by rw [arrSz c4, i2]; exact fun z => z.elim i1 (by omega)) rfl rfl hd (fun H' e1 e2 e3 => ?_)
  rw [i2] at e1
  have hR' : AR g (sI h a j (x.toUInt32 % 65536).toInt32) H' := hR.upd (fun _ => rfl) (fun _ => rfl) rfl h16 (by omega) (fun b hb ty f => fv_sI (fun z => hb z.1)) e2 e3 (fun z => by omega)
    (fun z => AArr.set hR z c1 (by rw [hk]; show tv g (.int (hI (sI h a j (x.toUInt32 % 65536).toInt32) a j)) = _; rw [hI_sI]; rfl) (fun ty f hf => fv_sI (fun z => hf z.2)) (by rw [hk]; exact fit_c x) e1)
  rw [i2]
  exact k g p l e R s m args below meth c mc ms F H' (locs ++ [⟨ad g a, j⟩]) cells slots lsA hR' (fun z hz => by
    rcases List.mem_append.mp hz with z1 | z1
    · exact hL z z1
    · rw [List.mem_singleton.mp z1]
      exact ad_ge g h16) hl hc hs
end RH
