/-! AW: from this point of a method, over AM's heap, the method comes to an end that its contract allows. Con: a method's contract over AM's heap. -/
set_option maxRecDepth 100000
/-- a method: its name, its code, its locals, its answer's type, its handlers -/
abbrev AMt : Type := MethodName × ByteArray × Nat × Option FieldType × List (Nat × Nat × Nat × Nat)
def mY (M : AMt) : MethodName := M.1
def mC (M : AMt) : ByteArray := M.2.1
def mL (M : AMt) : Nat := M.2.2.1
def mR (M : AMt) : Option FieldType := M.2.2.2.1
def mH (M : AMt) : List (Nat × Nat × Nat × Nat) := M.2.2.2.2
def acw (M : AMt) : Cond := match mH M with
  | [] => Cond.code (mY M) (mC M) (mL M) (mR M)
  | hh => Cond.codeWith (mY M) (mC M) (mL M) (mR M) hh
def aws (M : AMt) : List Cond := acw M :: lw_all
def arm (d mc ms : Nat) : Room := { frames := d, cells := mc, slots := ms, locals := 40 * d }
def tl (g : AG) (ls : List (Nat × Value)) : List (Nat × Value) := ls.map (fun q => (q.1, tv g q.2))
def AQ (g : AG) (post : Option Value → AH → Prop) : Array Value → State → Outcome → State → Prop := fun _ _ o t => ∃ v h', o = .returned (v.map (tv g)) ∧ post v h' ∧ AR g h' t.heap
def AX (g : AG) (px : Nat → AH → Prop) : String → Nat → State → State → Prop := fun E q _ t => ∃ a h', q = ad g a ∧ 16 ≤ a ∧ px a h' ∧ AR g h' t.heap ∧ hK h' a ≠ 0 ∧ hK h' a < 29 ∧ E = knm (hK h' a)
/-- what stays all through a method -/
def AF (M : AMt) (d : Nat) (g : AG) (p : Program) (l : Launch) (R : Room) (s : State) (m : MethodId) (args : Array Value) (meth : Method) (c : Code) (mc ms : Nat) : Prop :=
  p.tables.exec = Jvm.exec ∧ l.flags = flags0 ∧ c.code = mC M ∧ c.maxLocals = mL M ∧ c.exceptionTable.toList = tableOf (mH M) ∧ s.vm.findClass (mY M).cls = some m.cls ∧ (∀ w ∈ lw_all, w.before args s = true) ∧ meth.sig.returnType = mR M ∧ meth.locks = false ∧ meth.name = (mY M).name ∧ R = arm d mc ms ∧ AK g s
abbrev afree (g : AG) : Addr → Prop := fun q => gB g ≤ q
def AW (M : AMt) (d : Nat) (post : Option Value → AH → Prop) (px : Nat → AH → Prop) (rc rs pc : Nat) (ls : List (Nat × Value)) (st : List Value) (h : AH) : Prop :=
  ∀ (g : AG) (p : Program) (l : Launch) (e : Env) (R : Room) (s : State) (m : MethodId) (args : Array Value) (below : List Frame) (meth : Method) (c : Code) (mc ms : Nat), AF M d g p l R s m args meth c mc ms →
  ∀ (H : Heap) (locs : List Loc) (cells slots : Nat) (lsA : Array Slot), AR g h H → (∀ z ∈ locs, gB g ≤ z.base) → lv_has lsA (mL M) (tl g ls) → cells + rc ≤ mc → slots + rs ≤ ms →
  W p l e R s m args below meth c H locs cells slots (vx_MQ below (AQ g post) (AX g px) args s mc ms (afree g)) (F0 m pc lsA (st.map (tv g)))
/-- the thing a is being thrown at pc -/
def AWX (M : AMt) (d : Nat) (post : Option Value → AH → Prop) (px : Nat → AH → Prop) (rc rs pc : Nat) (ls : List (Nat × Value)) (a : Nat) (h : AH) : Prop :=
  ∀ (g : AG) (p : Program) (l : Launch) (e : Env) (R : Room) (s : State) (m : MethodId) (args : Array Value) (below : List Frame) (meth : Method) (c : Code) (mc ms : Nat), AF M d g p l R s m args meth c mc ms →
  ∀ (H : Heap) (locs : List Loc) (cells slots : Nat) (lsA : Array Slot) (rest : List Value), AR g h H → (∀ z ∈ locs, gB g ≤ z.base) → lv_has lsA (mL M) (tl g ls) → cells + rc ≤ mc → slots + rs ≤ ms → 16 ≤ a → hK h a ≠ 0 → hK h a < 29 →
  vx_W p l e R s m args below meth c H locs cells slots (vx_MQ below (AQ g post) (AX g px) args s mc ms (afree g)) (F0 m pc lsA rest) (ad g a)
def APc (g : AG) (as : List Value) (h : AH) : Array Value → State → Prop := fun av U => av = (as.map (tv g)).toArray ∧ AK g U ∧ AR g h U.heap
def Con (M : AMt) (d mc ms : Nat) (as : List Value) (h : AH) (post : Option Value → AH → Prop) (px : Nat → AH → Prop) : Prop :=
  ∀ (g : AG) (l : Launch), l.flags = flags0 → vx_Met l (mY M) (aws M) (arm d mc ms) (APc g as h) (AQ g post) (AX g px) mc ms (afree g)
theorem APc.blind {g : AG} {as : List Value} {h : AH} : FrameBlind (APc g as h) := fun a U f mk q => ⟨q.1, q.2.1.warm (State.WarmedH.refl U) rfl, q.2.2⟩
theorem tl_args (g : AG) : ∀ (as : List Value) (i : Nat), lv_args i (as.map (tv g)) = tl g (lv_args i as)
  | [], i => rfl
  | v :: vs, i => by
    show (i, tv g v) :: lv_args (if (tv g v).category = 2 then i + 2 else i + 1) (vs.map (tv g)) = (i, tv g v) :: tl g (lv_args (if v.category = 2 then i + 2 else i + 1) vs)
    rw [tv_cat, tl_args g vs]
theorem lg_sl_len (g : AG) (as : List Value) : (lg_sl (as.map (tv g))).length = (lg_sl as).length := by
  have e : ∀ v : Value, (if (tv g v).category = 2 then [Slot.val (tv g v), Slot.second] else [Slot.val (tv g v)]).length = (if v.category = 2 then [Slot.val v, Slot.second] else [Slot.val v]).length := by
    intro v
    rw [tv_cat]
    by_cases h : v.category = 2 <;> simp [h]
  unfold lg_sl
  simp only [List.length_flatMap, List.map_map]
  congr 1
  apply List.map_congr_left
  intro v _
  exact e v
/-- a contract out of a walk -/
theorem Con.of {M : AMt} {d mc ms : Nat} {as : List Value} {h : AH} {post : Option Value → AH → Prop} {px : Nat → AH → Prop} (hpl : plainName (mY M).cls = true) (hH : mH M = []) (hl : (lg_sl as).length ≤ mL M)
    (k : AW M d post px mc ms 0 (lv_args 0 as) [] h) : Con M d mc ms as h post px := by
  intro g l hfl
  have hw : aws M = Cond.code (mY M) (mC M) (mL M) (mR M) :: lw_all := by unfold aws acw; rw [hH]
  refine vx_ofW (cc := mC M) (maxL := mL M) (ret := mR M) hpl hw ?_
  intro p e s m args below meth c s₁ B hml ht hv
  obtain ⟨rfl, hAK, hAR⟩ := hv
  have hts := atoms_spec (ws := aws M) B.pre
  have hn := name_of_methodNamed B.named B.method
  rw [lg_entry_eq]
  have hE := lv_entry (as.map (tv g)) (n := mL M) (by rw [lg_sl_len]; exact hl)
  rw [tl_args] at hE
  have htab : c.exceptionTable.toList = tableOf (mH M) := by
    rw [hH]
    cases hc : c.exceptionTable.toList with
    | nil => rfl
    | cons x xs => exact (ht x (by rw [hc]; exact List.mem_cons_self)).elim
  exact k g p l e _ s m _ below meth c mc ms ⟨B.exec, hfl, B.bytes, hml, htab, findClass_of_methodNamed B.named, fun w h => hts w (List.mem_cons_of_mem _ h), B.returns, B.notSynchronized, hn.1, rfl, hAK⟩ s.heap [] 0 0 _ hAR (fun z hz => by cases hz) hE (by omega) (by omega)
theorem Con.ofH {M : AMt} {d mc ms : Nat} {as : List Value} {h : AH} {post : Option Value → AH → Prop} {px : Nat → AH → Prop} (hpl : plainName (mY M).cls = true) (hH : acw M = Cond.codeWith (mY M) (mC M) (mL M) (mR M) (mH M)) (hl : (lg_sl as).length ≤ mL M)
    (k : AW M d post px mc ms 0 (lv_args 0 as) [] h) : Con M d mc ms as h post px := by
  intro g l hfl
  have hw : aws M = Cond.codeWith (mY M) (mC M) (mL M) (mR M) (mH M) :: lw_all := by unfold aws; rw [hH]
  refine vx_ofWH (hh := mH M) (cc := mC M) (maxL := mL M) (ret := mR M) hpl hw ?_
  intro p e s m args below meth c s₁ B hml hv
  obtain ⟨rfl, hAK, hAR⟩ := hv
  have hts := atoms_spec (ws := aws M) B.pre
  have hn := name_of_methodNamed B.named B.method
  have htab : c.exceptionTable.toList = tableOf (mH M) := vx_table (x := mY M) B (hts _ (by rw [hw]; exact List.mem_cons_self))
  rw [lg_entry_eq]
  have hE := lv_entry (as.map (tv g)) (n := mL M) (by rw [lg_sl_len]; exact hl)
  rw [tl_args] at hE
  exact k g p l e _ s m _ below meth c mc ms ⟨B.exec, hfl, B.bytes, hml, htab, findClass_of_methodNamed B.named, fun w h => hts w (List.mem_cons_of_mem _ h), B.returns, B.notSynchronized, hn.1, rfl, hAK⟩ s.heap [] 0 0 _ hAR (fun z hz => by cases hz) hE (by omega) (by omega)
/-- a contract's post made weaker -/
theorem Con.weak {M : AMt} {d mc ms : Nat} {as : List Value} {h : AH} {post post' : Option Value → AH → Prop} {px px' : Nat → AH → Prop} (hC : Con M d mc ms as h post px) (h1 : ∀ v h', post v h' → post' v h') (h2 : ∀ a h', px a h' → px' a h') : Con M d mc ms as h post' px' := by
  intro g l hfl p e ha hc hk s m args below hf happ hP hE
  obtain ⟨n, o, e1, e2, e3, e4⟩ := hC g l hfl p e ha hc hk s m args below hf happ hP hE
  refine ⟨n, o, e1, e2, e3, ?_⟩
  rcases e4 with ⟨⟨v, h', f1, f2, f3⟩, hL⟩ | ⟨q, ho, E, ce, L, ⟨a, h', g1, g2, g3, g4⟩, r⟩
  · exact Or.inl ⟨⟨v, h', f1, h1 v h' f2, f3⟩, hL⟩
  · exact Or.inr ⟨q, ho, E, ce, L, ⟨a, h', g1, g2, h2 a h' g3, g4⟩, r⟩
/-- a local's value -/
def lk : List (Nat × Value) → Nat → Option Value
  | [], _ => none
  | q :: t, i => bif Nat.beq q.1 i then some q.2 else lk t i
def kp (i : Nat) (q : Nat × Value) : Bool := !(Nat.beq q.1 i) && !(Nat.beq (q.1 + 1) i && Nat.beq q.2.category 2)
def kp2 (i : Nat) (q : Nat × Value) : Bool := !(Nat.beq q.1 i) && (!(Nat.beq q.1 (i + 1)) && !(Nat.beq (q.1 + 1) i && Nat.beq q.2.category 2))
def st1 (i : Nat) (v : Value) (ls : List (Nat × Value)) : List (Nat × Value) := (i, v) :: ls.filter (kp i)
def st2 (i : Nat) (v : Value) (ls : List (Nat × Value)) : List (Nat × Value) := (i, v) :: ls.filter (kp2 i)
/-- the first list's locals are among the second's -/
def Sb : List (Nat × Value) → List (Nat × Value) → Prop
  | [], _ => True
  | q :: t, ls => lk ls q.1 = some q.2 ∧ Sb t ls
