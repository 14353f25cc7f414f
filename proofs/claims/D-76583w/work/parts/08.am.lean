/-! AM: an abstract heap over which every method of this claim is walked. A thing has a kind (0: none; below 100: an object, by its place in acl; from 100 on: an array, by its place in ael), ints, longs and references by field or place. References are AM's own numbers: 0 is null, 1..15 stand for cells that are there at the start, from 16 on for those made since. -/
set_option maxRecDepth 100000
abbrev AH : Type := (Nat → Nat) × (Nat → Nat) × (Nat → Nat → Int32) × (Nat → Nat → Int64) × (Nat → Nat → Nat) × Nat
def hK (h : AH) (a : Nat) : Nat := h.1 a
def hN (h : AH) (a : Nat) : Nat := h.2.1 a
def hI (h : AH) (a f : Nat) : Int32 := h.2.2.1 a f
def hJ (h : AH) (a f : Nat) : Int64 := h.2.2.2.1 a f
def hP (h : AH) (a f : Nat) : Nat := h.2.2.2.2.1 a f
def hX (h : AH) : Nat := h.2.2.2.2.2
def up2 {α : Type} (F : Nat → Nat → α) (a f : Nat) (v : α) : Nat → Nat → α := fun b g => if b = a ∧ g = f then v else F b g
def sI (h : AH) (a f : Nat) (v : Int32) : AH := (h.1, h.2.1, up2 h.2.2.1 a f v, h.2.2.2)
def sJ (h : AH) (a f : Nat) (v : Int64) : AH := (h.1, h.2.1, h.2.2.1, up2 h.2.2.2.1 a f v, h.2.2.2.2)
def sP (h : AH) (a f : Nat) (v : Nat) : AH := (h.1, h.2.1, h.2.2.1, h.2.2.2.1, up2 h.2.2.2.2.1 a f v, h.2.2.2.2.2)
/-- a new thing of kind k with n places, all nought -/
def nw (h : AH) (k n : Nat) : AH := (fun b => if b = hX h then k else h.1 b, fun b => if b = hX h then n else h.2.1 b, fun b g => if b = hX h then 0 else h.2.2.1 b g, fun b g => if b = hX h then 0 else h.2.2.2.1 b g, fun b g => if b = hX h then 0 else h.2.2.2.2.1 b g, hX h + 1)
/-- the tables of classes: kind by kind -/
def TOff : u_T := fun _ => ("FuneralDebts$Off", "place", "I", true)
def tyOff : Nat → FieldType := fun _ => .int
def acl : List vw_C := [(RX0, TX0, 34), (RX0, TX0, 34), (RX1, TX1, 7), (RX2, TX2, 3), (RX3, TX3, 6), (RX4, TX4, 2), (RX5, TX5, 1), (RX6, TX6, 31), (RX7, TX7, 3), (RX8, TX8, 3), (RX9, TX9, 3), (RX10, TX10, 3), (RX11, TX11, 3), (RX12, TX12, 3), (RX13, TX13, 4), (RX14, TX14, 5), (RX15, TOff, 1), (RX16, TX16, 2), (RX0, TX0, 34), (RX18, TX18, 2), (RX19, TX19, 1), (RX20, TX20, 3), (RJ2, TJ2, 3), (RJ6, TJ6, 2), (RJ15, TJ15, 0), (RJ16, TJ16, 0), (RJ17, TJ17, 0), (RJ18, TJ18, 0), (RJ20, TJ20, 0)]
def aty (k : Nat) : Nat → FieldType := match k with
  | 0 => tyX0 | 1 => tyX0 | 2 => tyX1 | 3 => tyX2 | 4 => tyX3 | 5 => tyX4 | 6 => tyX5 | 7 => tyX6 | 8 => tyX7 | 9 => tyX8 | 10 => tyX9 | 11 => tyX10 | 12 => tyX11 | 13 => tyX12 | 14 => tyX13 | 15 => tyX14 | 16 => tyOff | 17 => tyX16 | 18 => tyX0 | 19 => tyX18 | 20 => tyX19 | 21 => tyX20 | 22 => tyJ2 | 23 => tyJ6 | _ => tyOff
/-- the arrays' element types -/
def ael : List FieldType := [.int, .byte, .short, .long, .boolean, .char, .object "FuneralDebts$Mourner", .object "FuneralDebts$Tape", .object "java/lang/Object"]
def aelt (k : Nat) : FieldType := (ael[k - 100]?).getD .int
def knf (k : Nat) : Nat := match acl[k]? with
  | some q => q.2.2
  | none => 0
def knm (k : Nat) : String := match acl[k]? with
  | some q => q.1
  | none => ""
/-- the start's state; where AM's 1..15 lie; the classes' ids; the fields' slots; the array classes' ids -/
abbrev AG : Type := State × (Nat → Nat) × (Nat → ClassId) × (Nat → Nat → Nat) × (Nat → ClassId)
def gU (g : AG) : State := g.1
def gsp (g : AG) : Nat → Nat := g.2.1
def gC (g : AG) : Nat → ClassId := g.2.2.1
def gF (g : AG) : Nat → Nat → Nat := g.2.2.2.1
def gA (g : AG) : Nat → ClassId := g.2.2.2.2
def gB (g : AG) : Nat := (gU g).heap.size
def atys (g : AG) : List (ClassId × FieldType) := ael.zipIdx.map (fun q => (gA g q.2, q.1))
/-- where AM's a lies -/
def ad (g : AG) (a : Nat) : Nat := if a < 16 then gsp g a else gB g + (a - 16)
def tv (g : AG) : Value → Value
  | .ref a => if a = 0 then .null else .ref (ad g a)
  | .retAddr _ => if gsp g 10 = 0 then .null else .ref (gsp g 10 - 1)
  | v => v
theorem tv_cat (g : AG) (v : Value) : (tv g v).category = v.category := by
  cases v with
  | ref a =>
    by_cases h : a = 0
    · simp [tv, h, Value.category]
    · simp [tv, h, Value.category]
  | retAddr n =>
    by_cases h : gsp g 10 = 0
    · simp [tv, h, Value.category]
    · simp [tv, h, Value.category]
  | _ => rfl
theorem tv_0 (g : AG) : tv g (.ref 0) = .null := rfl
theorem tv_p (g : AG) {a : Nat} (h : a ≠ 0) : tv g (.ref a) = .ref (ad g a) := by simp [tv, h]
/-- a place of type ty -/
def vt (ty : FieldType) (i : Int32) (l : Int64) (p : Nat) : Value := match ty with
  | .long => .long l
  | .object _ => .ref p
  | .array _ => .ref p
  | _ => .int i
def fv (h : AH) (ty : FieldType) (a f : Nat) : Value := vt ty (hI h a f) (hJ h a f) (hP h a f)
def AArr (q : Nat) (cA : ClassId) (n : Nat) (f : Nat → Value) (H : Heap) : Prop := ∃ cell : Cell, H[q]? = some cell ∧ cell.cls = cA ∧ cell.vm = .none ∧ cell.slots = (arrV cA n f).slots
def AObj (g : AG) (h : AH) (a : Nat) (H : Heap) : Prop := t_OB (ad g a) (gC g (hK h a)) (knf (hK h a)) (gF g (hK h a)) H (fun f => tv g (fv h (aty (hK h a) f) a f))
/-- the machine's heap H is AM's h -/
def AR (g : AG) (h : AH) (H : Heap) : Prop :=
  (H.size = gB g + (hX h - 16) ∧ 16 ≤ hX h) ∧ (∀ q, q < gB g → H[q]? = (gU g).heap[q]?) ∧
  (∀ a, hK h a ≠ 0 → 0 < a ∧ a < hX h ∧ (a < 16 → gsp g a < gB g)) ∧
  (∀ a, hK h a ≠ 0 → hK h a < 100 → AObj g h a H) ∧
  (∀ a, 100 ≤ hK h a → AArr (ad g a) (gA g (hK h a - 100)) (hN h a) (fun i => tv g (fv h (aelt (hK h a)) a i)) H ∧ ∀ i, i < hN h a → fits (aelt (hK h a)) (tv g (fv h (aelt (hK h a)) a i)) = true)
/-- the cells that are there at the start: ArrayList's empty array, String's flag, a formatter, three texts, a class object -/
def ASp (g : AG) : Prop :=
  va_Z "java/util/ArrayList" "DEFAULTCAPACITY_EMPTY_ELEMENTDATA" "[Ljava/lang/Object;" (.ref (gsp g 2)) (fun q => gB g ≤ q) (gU g) (gU g).heap ∧
  va_Z "java/lang/String" "COMPACT_STRINGS" "Z" (.int 1) (fun q => gB g ≤ q) (gU g) (gU g).heap ∧
  va_Z "jdk/internal/util/Preconditions" "SIOOBE_FORMATTER" "Ljava/util/function/BiFunction;" (tv g (.retAddr 0)) (fun q => gB g ≤ q) (gU g) (gU g).heap ∧
  vk_R "FuneralDebts$Reader" 114 "more " (gsp g 3) (gU g) ∧ vk_R "FuneralDebts$Reader" 120 "less " (gsp g 4) (gU g) ∧ vk_R "FuneralDebts$Reader" 122 "yard " (gsp g 5) (gU g) ∧
  va_Mi "[Ljava/lang/Object;" (gsp g 9) (gU g)
/-- what is known of the start -/
def AK0 (g : AG) : Prop :=
  (∃ b : Nat, gsp g 1 = b ∧ (∀ w ∈ lw_tbl, w.before #[Value.ref b] (gU g) = true) ∧ (Jvm.Cond.and given_1 narrow_1).before #[Value.ref b] (gU g) = true) ∧ modulesRight_1 (gU g) = true ∧
  va_K (gC g, gF g) acl (atys g) (gU g) ∧ (∀ k, k < 29 → ∀ i, i < knf k → ∀ j, j < knf k → i ≠ j → gF g k i ≠ gF g k j) ∧ ASp g
def AK (g : AG) (s : State) : Prop := AK0 g ∧ (gU g).WarmedH s.vm
theorem AK.warm {g : AG} {s : State} {v : Vm} {U : State} (h : AK g s) (hW : s.WarmedH v) (hU : U.vm = v) : AK g U := ⟨h.1, by rw [hU]; exact State.WarmedH.trans h.2 hW⟩
theorem ad_hi (g : AG) {a : Nat} (h : 16 ≤ a) : ad g a = gB g + (a - 16) := by simp [ad, Nat.not_lt.mpr h]
theorem ad_lo (g : AG) {a : Nat} (h : a < 16) : ad g a = gsp g a := by simp [ad, h]
theorem ad_ge (g : AG) {a : Nat} (h : 16 ≤ a) : gB g ≤ ad g a := by rw [ad_hi g h]; omega
theorem ad_inj {g : AG} {h : AH} {H : Heap} (hR : AR g h H) {a b : Nat} (ha : hK h a ≠ 0) (hb : 16 ≤ b) (e : ad g a = ad g b) : a = b := by
  obtain ⟨-, -, h3, -, -⟩ := hR
  by_cases h : a < 16
  · have h1 := (h3 a ha).2.2 h
    rw [ad_lo g h, ad_hi g hb] at e
    omega
  · rw [ad_hi g (by omega), ad_hi g hb] at e
    omega
theorem AObj.kept {g : AG} {h h' : AH} {a : Nat} {H H' : Heap} (hO : AObj g h a H) (hk : hK h' a = hK h a) (hv : ∀ ty f, fv h' ty a f = fv h ty a f) (hH : H'[ad g a]? = H[ad g a]?) : AObj g h' a H' := by
  unfold AObj at *
  rw [hk]
  refine (hO.kept hH).to (fun f _ => ?_)
  rw [hv]
theorem AArr.kept {q : Nat} {cA : ClassId} {n : Nat} {f : Nat → Value} {H H' : Heap} (hO : AArr q cA n f H) (hH : H'[q]? = H[q]?) : AArr q cA n f H' := by
  obtain ⟨cell, h1, h2⟩ := hO
  exact ⟨cell, by rw [hH]; exact h1, h2⟩
theorem AR.upd {g : AG} {h h' : AH} {H H' : Heap} {a : Nat} (hR : AR g h H) (hk : ∀ b, hK h' b = hK h b) (hn : ∀ b, hN h' b = hN h b) (hx : hX h' = hX h) (ha : 16 ≤ a) (hA : hK h a ≠ 0) (ho : ∀ b, b ≠ a → ∀ ty f, fv h' ty b f = fv h ty b f) (hsz : H'.size = H.size) (hH : ∀ q, q ≠ ad g a → H'[q]? = H[q]?)
    (h1 : hK h a < 100 → AObj g h' a H') (h2 : 100 ≤ hK h a → AArr (ad g a) (gA g (hK h a - 100)) (hN h a) (fun i => tv g (fv h' (aelt (hK h a)) a i)) H' ∧ ∀ i, i < hN h a → fits (aelt (hK h a)) (tv g (fv h' (aelt (hK h a)) a i)) = true) : AR g h' H' := by
  have hR0 := hR
  obtain ⟨r1, r2, r3, r4, r5⟩ := hR
  have hB := ad_ge g ha
  refine ⟨⟨by rw [hsz, hx]; exact r1.1, by rw [hx]; exact r1.2⟩, fun q hq => (hH q (by omega)).trans (r2 q hq), fun b hb => ?_, fun b hb hb2 => ?_, fun b hb => ?_⟩
  · rw [hk] at hb
    rw [hx]
    exact r3 b hb
  · rw [hk] at hb hb2
    by_cases e : b = a
    · subst e
      exact h1 hb2
    · exact (r4 b hb hb2).kept (hk b) (ho b e) (hH _ (fun z => e (ad_inj hR0 hb ha z)))
  · rw [hk] at hb ⊢
    rw [hn]
    by_cases e : b = a
    · subst e
      exact h2 hb
    · have h3 := (r5 b hb).1.kept (hH _ (fun z => e (ad_inj hR0 (by omega) ha z)))
      have h4 : (fun i => tv g (fv h' (aelt (hK h b)) b i)) = (fun i => tv g (fv h (aelt (hK h b)) b i)) := by
        funext i
        rw [ho b e]
      rw [h4]
      refine ⟨h3, fun i hi => ?_⟩
      rw [ho b e]
      exact (r5 b hb).2 i hi
theorem fv_sI {h : AH} {a f b j : Nat} {v : Int32} {ty : FieldType} (hb : ¬ (b = a ∧ j = f)) : fv (sI h a f v) ty b j = fv h ty b j := by
  have e : hI (sI h a f v) b j = hI h b j := by simp only [hI, sI, up2]; rw [if_neg hb]
  unfold fv
  rw [e]
  rfl
theorem fv_sJ {h : AH} {a f b j : Nat} {v : Int64} {ty : FieldType} (hb : ¬ (b = a ∧ j = f)) : fv (sJ h a f v) ty b j = fv h ty b j := by
  have e : hJ (sJ h a f v) b j = hJ h b j := by simp only [hJ, sJ, up2]; rw [if_neg hb]
  unfold fv
  rw [e]
  rfl
theorem fv_sP {h : AH} {a f b j : Nat} {v : Nat} {ty : FieldType} (hb : ¬ (b = a ∧ j = f)) : fv (sP h a f v) ty b j = fv h ty b j := by
  have e : hP (sP h a f v) b j = hP h b j := by simp only [hP, sP, up2]; rw [if_neg hb]
  unfold fv
  rw [e]
  rfl
theorem hI_sI {h : AH} {a f : Nat} {v : Int32} : hI (sI h a f v) a f = v := by simp [hI, sI, up2]
theorem hJ_sJ {h : AH} {a f : Nat} {v : Int64} : hJ (sJ h a f v) a f = v := by simp [hJ, sJ, up2]
theorem hP_sP {h : AH} {a f : Nat} {v : Nat} : hP (sP h a f v) a f = v := by simp [hP, sP, up2]
theorem hI_sI_ne {h : AH} {a f b j : Nat} {v : Int32} (hb : ¬ (b = a ∧ j = f)) : hI (sI h a f v) b j = hI h b j := by simp only [hI, sI, up2]; rw [if_neg hb]
theorem hJ_sJ_ne {h : AH} {a f b j : Nat} {v : Int64} (hb : ¬ (b = a ∧ j = f)) : hJ (sJ h a f v) b j = hJ h b j := by simp only [hJ, sJ, up2]; rw [if_neg hb]
theorem hP_sP_ne {h : AH} {a f b j : Nat} {v : Nat} (hb : ¬ (b = a ∧ j = f)) : hP (sP h a f v) b j = hP h b j := by simp only [hP, sP, up2]; rw [if_neg hb]
/-- a field's new value: the machine's cell with its slot set -/
theorem AObj.set {g : AG} {h h' : AH} {H H' : Heap} {a f : Nat} {cell : Cell} {v : Value} (hR : AR g h H) (hK0 : AK0 g) (h0 : hK h a ≠ 0) (h9 : hK h a < 29) (hc : H[ad g a]? = some cell) (hf : f < knf (hK h a)) (hk : hK h' a = hK h a)
    (hv : tv g (fv h' (aty (hK h a) f) a f) = v) (ho : ∀ ty j, j ≠ f → fv h' ty a j = fv h ty a j) (hH : H'[ad g a]? = some (cell.setSlot (gF g (hK h a) f) v)) : AObj g h' a H' := by
  obtain ⟨-, -, -, r4, -⟩ := hR
  obtain ⟨cell', e1, e2, e3, e4⟩ := r4 a h0 (by omega)
  cases hc.symm.trans e1
  unfold AObj
  rw [hk]
  refine ⟨_, hH, e2, e3, fun j hj => ?_⟩
  have hlt : gF g (hK h a) f < cell.slots.size := (Array.getElem?_eq_some_iff.mp (e4 f hf)).1
  show (cell.slots.setIfInBounds (gF g (hK h a) f) v)[gF g (hK h a) j]? = _
  by_cases e : j = f
  · subst e
    rw [Array.getElem?_setIfInBounds_self_of_lt hlt]
    exact congrArg some hv.symm
  · rw [Array.getElem?_setIfInBounds_ne (fun z => hK0.2.2.2.1 _ h9 f hf j hj (fun y => e y.symm) z), e4 j hj]
    show some (tv g _) = some (tv g _)
    rw [ho _ j e]
/-- a place's new value in an array -/
theorem AArr.set0 {g : AG} {h h' : AH} {H H' : Heap} {a i : Nat} {cell : Cell} {v : Value} (hR : AR g h H) (h0 : 100 ≤ hK h a) (hc : H[ad g a]? = some cell) 
    (hv : tv g (fv h' (aelt (hK h a)) a i) = v) (ho : ∀ ty j, j ≠ i → fv h' ty a j = fv h ty a j) (hH : H'[ad g a]? = some (cell.setSlot i v)) : AArr (ad g a) (gA g (hK h a - 100)) (hN h a) (fun i => tv g (fv h' (aelt (hK h a)) a i)) H' := by
  obtain ⟨-, -, -, -, r5⟩ := hR
  obtain ⟨cell', e1, e2, e3, e4⟩ := (r5 a h0).1
  cases hc.symm.trans e1
  refine ⟨_, hH, e2, e3, ?_⟩
  show cell.slots.setIfInBounds i v = _
  have h5 := congrArg Cell.slots (arrV_store (gA g (hK h a - 100)) (hN h a) i (fun i => tv g (fv h (aelt (hK h a)) a i)) v)
  have h6 : ((arrV (gA g (hK h a - 100)) (hN h a) (fun i => tv g (fv h (aelt (hK h a)) a i))).setSlot i v).slots = (arrV (gA g (hK h a - 100)) (hN h a) (fun i => tv g (fv h (aelt (hK h a)) a i))).slots.setIfInBounds i v := rfl
  rw [e4, ← h6, h5]
  congr 2
  funext j
  unfold updV
  by_cases e : j = i
  · subst e
    rw [if_pos rfl, hv]
  · rw [if_neg e, ho _ j e]
theorem AArr.set {g : AG} {h h' : AH} {H H' : Heap} {a i : Nat} {cell : Cell} {v : Value} (hR : AR g h H) (h0 : 100 ≤ hK h a) (hc : H[ad g a]? = some cell) 
    (hv : tv g (fv h' (aelt (hK h a)) a i) = v) (ho : ∀ ty j, j ≠ i → fv h' ty a j = fv h ty a j) (hf : fits (aelt (hK h a)) v = true) (hH : H'[ad g a]? = some (cell.setSlot i v)) : AArr (ad g a) (gA g (hK h a - 100)) (hN h a) (fun i => tv g (fv h' (aelt (hK h a)) a i)) H' ∧ ∀ i, i < hN h a → fits (aelt (hK h a)) (tv g (fv h' (aelt (hK h a)) a i)) = true := by
  refine ⟨AArr.set0 hR h0 hc hv ho hH, fun j hj => ?_⟩
  by_cases e : j = i
  · subst e
    rw [hv]
    exact hf
  · rw [ho _ j e]
    exact (hR.2.2.2.2 a h0).2 j hj
theorem AR.cell {g : AG} {h : AH} {H : Heap} (hR : AR g h H) {a : Nat} (h0 : hK h a ≠ 0) (h9 : hK h a < 100) : ∃ cell : Cell, H[ad g a]? = some cell ∧ cell.cls = gC g (hK h a) ∧ cell.vm = .none ∧ ∀ f, f < knf (hK h a) → cell.slots[gF g (hK h a) f]? = some (tv g (fv h (aty (hK h a) f) a f)) := hR.2.2.2.1 a h0 h9
theorem AR.arr {g : AG} {h : AH} {H : Heap} (hR : AR g h H) {a : Nat} (h0 : 100 ≤ hK h a) : ∃ cell : Cell, H[ad g a]? = some cell ∧ cell.cls = gA g (hK h a - 100) ∧ cell.vm = .none ∧ cell.slots = (arrV (gA g (hK h a - 100)) (hN h a) (fun i => tv g (fv h (aelt (hK h a)) a i))).slots := (hR.2.2.2.2 a h0).1
theorem fv_nw {h : AH} {k n b j : Nat} {ty : FieldType} (hb : b ≠ hX h) : fv (nw h k n) ty b j = fv h ty b j := by
  simp [fv, hI, hJ, hP, nw, if_neg hb]
theorem fv_nw0 {h : AH} {k n j : Nat} {ty : FieldType} : fv (nw h k n) ty (hX h) j = vt ty 0 0 0 := by
  simp [fv, hI, hJ, hP, nw]
theorem AR.fresh {g : AG} {h : AH} {H : Heap} (hR : AR g h H) : hK h (hX h) = 0 := by
  by_cases e : hK h (hX h) = 0
  · exact e
  · have := (hR.2.2.1 _ e).2.1
    omega
theorem AR.lt {g : AG} {h : AH} {H : Heap} (hR : AR g h H) {a : Nat} (ha : hK h a ≠ 0) : ad g a < H.size := by
  obtain ⟨h1, h2, h3⟩ := hR.2.2.1 a ha
  by_cases e : a < 16
  · rw [ad_lo g e, hR.1.1]
    have := h3 e
    omega
  · rw [ad_hi g (by omega), hR.1.1]
    omega
theorem AR.new {g : AG} {h : AH} {H H' : Heap} {k n : Nat} (hR : AR g h H) (hsz : H'.size = H.size + 1) (hH : ∀ q, q < H.size → H'[q]? = H[q]?)
    (h1 : k ≠ 0 → k < 100 → AObj g (nw h k n) (hX h) H') (h2 : 100 ≤ k → AArr (ad g (hX h)) (gA g (k - 100)) n (fun _ => tv g (vt (aelt k) 0 0 0)) H' ∧ fits (aelt k) (tv g (vt (aelt k) 0 0 0)) = true) : AR g (nw h k n) H' := by
  have hR0 := hR
  obtain ⟨r1, r2, r3, r4, r5⟩ := hR
  have kk : ∀ b, b ≠ hX h → hK (nw h k n) b = hK h b := fun b hb => by simp [hK, nw, hb]
  have k0 : hK (nw h k n) (hX h) = k := by simp [hK, nw]
  have nn : ∀ b, b ≠ hX h → hN (nw h k n) b = hN h b := fun b hb => by simp [hN, nw, hb]
  have n0 : hN (nw h k n) (hX h) = n := by simp [hN, nw]
  have xx : hX (nw h k n) = hX h + 1 := rfl
  refine ⟨⟨by rw [hsz, xx]; omega, by rw [xx]; omega⟩, fun q hq => (hH q (by rw [r1.1]; omega)).trans (r2 q hq), fun b hb => ?_, fun b hb hb2 => ?_, fun b hb => ?_⟩
  · by_cases e : b = hX h
    · rw [e, xx]
      exact ⟨by omega, by omega, by omega⟩
    · rw [kk b e] at hb
      have := r3 b hb
      rw [xx]
      exact ⟨this.1, by omega, this.2.2⟩
  · by_cases e : b = hX h
    · subst e
      rw [k0] at hb hb2
      exact h1 hb hb2
    · rw [kk b e] at hb hb2
      exact (r4 b hb hb2).kept (kk b e) (fun _ _ => fv_nw e) (hH _ (hR0.lt hb))
  · by_cases e : b = hX h
    · subst e
      rw [k0] at hb ⊢
      rw [n0]
      have h4 : (fun i => tv g (fv (nw h k n) (aelt k) (hX h) i)) = (fun _ => tv g (vt (aelt k) 0 0 0)) := by
        funext i
        rw [fv_nw0]
      rw [h4]
      exact ⟨(h2 hb).1, fun i _ => by rw [fv_nw0]; exact (h2 hb).2⟩
    · rw [kk b e] at hb ⊢
      rw [nn b e]
      have h4 : (fun i => tv g (fv (nw h k n) (aelt (hK h b)) b i)) = (fun i => tv g (fv h (aelt (hK h b)) b i)) := by
        funext i
        rw [fv_nw e]
      rw [h4]
      exact ⟨(r5 b hb).1.kept (hH _ (hR0.lt (by omega))), fun i hi => by rw [fv_nw e]; exact (r5 b hb).2 i hi⟩
/-- the machine has made cells of its own: they are nothing to AM -/
def sk (h : AH) (n : Nat) : AH := (h.1, h.2.1, h.2.2.1, h.2.2.2.1, h.2.2.2.2.1, n)
theorem AR.sk {g : AG} {h : AH} {H H' : Heap} (hR : AR g h H) (hsz : H.size ≤ H'.size) (hH : ∀ q, q < H.size → H'[q]? = H[q]?) : AR g (sk h (hX h + (H'.size - H.size))) H' := by
  have hR0 := hR
  obtain ⟨r1, r2, r3, r4, r5⟩ := hR
  refine ⟨⟨?_, ?_⟩, fun q hq => (hH q (by rw [r1.1]; omega)).trans (r2 q hq), fun b hb => ?_, fun b hb hb2 => ?_, fun b hb => ?_⟩
  · show H'.size = gB g + (hX h + (H'.size - H.size) - 16)
    omega
  · show 16 ≤ hX h + (H'.size - H.size)
    omega
  · have := r3 b hb
    exact ⟨this.1, Nat.lt_of_lt_of_le this.2.1 (Nat.le_add_right _ _), this.2.2⟩
  · exact (r4 b hb hb2).kept rfl (fun _ _ => rfl) (hH _ (hR0.lt hb))
  · exact ⟨(r5 b hb).1.kept (hH _ (hR0.lt (by show hK h b ≠ 0; have : 100 ≤ hK h b := hb; omega))), (r5 b hb).2⟩
