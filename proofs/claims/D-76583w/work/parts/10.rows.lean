/-! AW, row by row: an instruction each -/
set_option maxRecDepth 100000
theorem lk_in : ∀ {ls : List (Nat × Value)} {i : Nat} {v : Value}, lk ls i = some v → (i, v) ∈ ls
  | [], i, v, h => by cases h
  | q :: t, i, v, h => by
    unfold lk at h
    by_cases e : q.1 = i
    · have e1 : Nat.beq q.1 i = true := by rw [e]; exact Nat.beq_refl i
      rw [e1] at h
      cases h
      rw [← e]
      exact List.mem_cons_self
    · have e1 : Nat.beq q.1 i = false := by
        cases hb : Nat.beq q.1 i with
        | false => rfl
        | true => exact absurd (Nat.eq_of_beq_eq_true hb) e
      rw [e1] at h
      exact List.mem_cons_of_mem _ (lk_in h)
theorem lk_at {g : AG} {lsA : Array Slot} {n : Nat} {ls : List (Nat × Value)} {i : Nat} {v : Value} (h : lv_has lsA n (tl g ls)) (hl : lk ls i = some v) : lsA[i]? = some (.val (tv g v)) :=
  h.2.2 (i, tv g v) (List.mem_map.mpr ⟨(i, v), lk_in hl, rfl⟩)
theorem beqN (a b : Nat) : (a == b) = Nat.beq a b := by
  cases h : Nat.beq a b with
  | true => rw [Nat.eq_of_beq_eq_true h]; simp
  | false => have h2 : a ≠ b := Nat.ne_of_beq_eq_false h; simp [h2]
theorem kp_eq (g : AG) (i : Nat) : (fun q : Nat × Value => !(q.1 == i) && !(q.1 + 1 == i && q.2.category == 2)) ∘ (fun q : Nat × Value => (q.1, tv g q.2)) = kp i := by
  funext q
  simp only [Function.comp, kp, tv_cat, beqN]
theorem tl_st1 (g : AG) (i : Nat) (v w : Value) (ls : List (Nat × Value)) (hw : tv g v = w) : (i, w) :: (tl g ls).filter (fun q => !(q.1 == i) && !(q.1 + 1 == i && q.2.category == 2)) = tl g (st1 i v ls) := by
  subst hw
  unfold tl st1
  rw [List.filter_map, kp_eq, List.map_cons]
theorem kp2_eq (g : AG) (i : Nat) : (fun q : Nat × Value => !(q.1 == i) && (!(q.1 == i + 1) && !(q.1 + 1 == i && q.2.category == 2))) ∘ (fun q : Nat × Value => (q.1, tv g q.2)) = kp2 i := by
  funext q
  simp only [Function.comp, kp2, tv_cat, beqN]
theorem tl_st2 (g : AG) (i : Nat) (v w : Value) (ls : List (Nat × Value)) (hw : tv g v = w) : (i, w) :: (tl g ls).filter (fun q => !(q.1 == i) && (!(q.1 == i + 1) && !(q.1 + 1 == i && q.2.category == 2))) = tl g (st2 i v ls) := by
  subst hw
  unfold tl st2
  rw [List.filter_map, kp2_eq, List.map_cons]
section RW
variable {M : AMt} {d : Nat} {post : Option Value → AH → Prop} {px : Nat → AH → Prop} {rc rs pc : Nat} {ls : List (Nat × Value)} {st : List Value} {h : AH}
/-- fewer locals -/
theorem AW.loc {ls' : List (Nat × Value)} (hs : Sb ls' ls) (k : AW M d post px rc rs pc ls' st h) : AW M d post px rc rs pc ls st h := by
  intro g p l e R s m args below meth c mc ms F H locs cells slots lsA hR hL hl hc hs2
  have hmem : ∀ (xs : List (Nat × Value)), Sb xs ls → ∀ q ∈ xs, q ∈ ls := by
    intro xs
    induction xs with
    | nil => intro _ q hq; cases hq
    | cons x t ih =>
      intro hx q hq
      rcases List.mem_cons.mp hq with e | e
      · rw [e]
        exact lk_in hx.1
      · exact ih hx.2 q e
  refine k g p l e R s m args below meth c mc ms F H locs cells slots lsA hR hL ⟨hl.1, hl.2.1, fun q hq => ?_⟩ hc hs2
  obtain ⟨q0, h1, h2⟩ := List.mem_map.mp hq
  exact hl.2.2 q (List.mem_map.mpr ⟨q0, hmem _ hs q0 h1, h2⟩)
theorem AW.lc {ls' : List (Nat × Value)} (k : AW M d post px rc rs pc ls' st h) (hs : Sb ls' ls) : AW M d post px rc rs pc ls st h := AW.loc hs k
/-- less room -/
theorem AW.room {rc' rs' : Nat} (h1 : rc' ≤ rc) (h2 : rs' ≤ rs) (k : AW M d post px rc' rs' pc ls st h) : AW M d post px rc rs pc ls st h := by
  intro g p l e R s m args below meth c mc ms F H locs cells slots lsA hR hL hl hc hs2
  exact k g p l e R s m args below meth c mc ms F H locs cells slots lsA hR hL hl (by omega) (by omega)
/-- a weaker end -/
theorem AW.wk {post' : Option Value → AH → Prop} {px' : Nat → AH → Prop} (h1 : ∀ v h', post v h' → post' v h') (h2 : ∀ a h', px a h' → px' a h') (k : AW M d post px rc rs pc ls st h) : AW M d post' px' rc rs pc ls st h := by
  intro g p l e R s m args below meth c mc ms F H locs cells slots lsA hR hL hl hc hs2 T hT X
  obtain ⟨t, a1, o, b1, b2, b3⟩ := k g p l e R s m args below meth c mc ms F H locs cells slots lsA hR hL hl hc hs2 T hT X
  refine ⟨t, a1, o, b1, b2, ?_⟩
  rcases b3 with ⟨⟨v, h', f1, f2, f3⟩, hL⟩ | ⟨q, ho, E, ce, L, ⟨a, h', g1, g2, g3, g4⟩, r⟩
  · exact Or.inl ⟨⟨v, h', f1, h1 v h' f2, f3⟩, hL⟩
  · exact Or.inr ⟨q, ho, E, ce, L, ⟨a, h', g1, g2, h2 a h' g3, g4⟩, r⟩
theorem AW.cast {st' : List Value} {h' : AH} {ls' : List (Nat × Value)} (e1 : st = st') (e2 : h = h') (e3 : ls = ls') (k : AW M d post px rc rs pc ls' st' h') : AW M d post px rc rs pc ls st h := by
  subst e1; subst e2; subst e3; exact k
theorem s_iconst {n : Int} {v : Int32} (hd : decode (mC M) pc = .ok (.iconst n, 1)) (hv : Int32.ofInt n = v) (k : AW M d post px rc rs (pc + 1) ls (.int v :: st) h) : AW M d post px rc rs pc ls (st) h := by
  intro g p l e R s m args below meth c mc ms F H locs cells slots lsA hR hL hl hc hs
  exact lv_iconst F.1 F.2.2.1 hd hv (k g p l e R s m args below meth c mc ms F H locs cells slots lsA hR hL hl hc hs)
theorem s_bipush {n : Int} {v : Int32} (hd : decode (mC M) pc = .ok (.bipush n, 2)) (hv : (Int8.ofInt n).toInt32 = v) (k : AW M d post px rc rs (pc + 2) ls (.int v :: st) h) : AW M d post px rc rs pc ls (st) h := by
  intro g p l e R s m args below meth c mc ms F H locs cells slots lsA hR hL hl hc hs
  exact lv_bipush F.1 F.2.2.1 hd hv (k g p l e R s m args below meth c mc ms F H locs cells slots lsA hR hL hl hc hs)
theorem s_sipush {n : Int} {v : Int32} (hd : decode (mC M) pc = .ok (.sipush n, 3)) (hv : (Int16.ofInt n).toInt32 = v) (k : AW M d post px rc rs (pc + 3) ls (.int v :: st) h) : AW M d post px rc rs pc ls (st) h := by
  intro g p l e R s m args below meth c mc ms F H locs cells slots lsA hR hL hl hc hs
  exact lv_sipush F.1 F.2.2.1 hd hv (k g p l e R s m args below meth c mc ms F H locs cells slots lsA hR hL hl hc hs)
theorem s_lconst {n : Fin 2} {v : Int64} (hd : decode (mC M) pc = .ok (.lconst n, 1)) (hv : Int64.ofNat (n : Nat) = v) (k : AW M d post px rc rs (pc + 1) ls (.long v :: st) h) : AW M d post px rc rs pc ls (st) h := by
  intro g p l e R s m args below meth c mc ms F H locs cells slots lsA hR hL hl hc hs
  exact lv_lconst F.1 F.2.2.1 hd hv (k g p l e R s m args below meth c mc ms F H locs cells slots lsA hR hL hl hc hs)
theorem s_null (hd : decode (mC M) pc = .ok (.aconst_null, 1)) (k : AW M d post px rc rs (pc + 1) ls (.ref 0 :: st) h) : AW M d post px rc rs pc ls (st) h := by
  intro g p l e R s m args below meth c mc ms F H locs cells slots lsA hR hL hl hc hs
  exact lv_null F.1 F.2.2.1 hd (k g p l e R s m args below meth c mc ms F H locs cells slots lsA hR hL hl hc hs)
theorem s_ldc {idx : Nat} {v : Int32} (hd : decode (mC M) pc = .ok (.ldc idx, 2)) (hq : Jvm.Cond.constant (mY M).cls idx v ∈ lw_all) (k : AW M d post px rc rs (pc + 2) ls (.int v :: st) h) : AW M d post px rc rs pc ls st h := by
  intro g p l e R s m args below meth c mc ms F H locs cells slots lsA hR hL hl hc hs
  exact lv_ldc F.1 F.2.2.1 F.2.2.2.2.2.1 (F.2.2.2.2.2.2.1 _ hq) hd (k g p l e R s m args below meth c mc ms F H locs cells slots lsA hR hL hl hc hs)
theorem s_ldcw {idx : Nat} {v : Int32} (hd : decode (mC M) pc = .ok (.ldc_w idx, 3)) (hq : Jvm.Cond.constant (mY M).cls idx v ∈ lw_all) (k : AW M d post px rc rs (pc + 3) ls (.int v :: st) h) : AW M d post px rc rs pc ls st h := by
  intro g p l e R s m args below meth c mc ms F H locs cells slots lsA hR hL hl hc hs
  exact lv_ldcw F.1 F.2.2.1 F.2.2.2.2.2.1 (F.2.2.2.2.2.2.1 _ hq) hd (k g p l e R s m args below meth c mc ms F H locs cells slots lsA hR hL hl hc hs)
theorem s_ldc2 {idx : Nat} {v : Int64} (hd : decode (mC M) pc = .ok (.ldc2_w idx, 3)) (hq : Jvm.Cond.constantLong (mY M).cls idx v ∈ lw_all) (k : AW M d post px rc rs (pc + 3) ls (.long v :: st) h) : AW M d post px rc rs pc ls st h := by
  intro g p l e R s m args below meth c mc ms F H locs cells slots lsA hR hL hl hc hs
  exact lv_ldc2 F.1 F.2.2.1 F.2.2.2.2.2.1 (F.2.2.2.2.2.2.1 _ hq) hd (k g p l e R s m args below meth c mc ms F H locs cells slots lsA hR hL hl hc hs)
theorem s_iload_n {k0 : Fin 4} {x : Int32} (i : Nat) (hd : decode (mC M) pc = .ok (.iload_n k0, 1)) (hi : (k0 : Nat) = i) (hk : lk ls i = some (.int x)) (k : AW M d post px rc rs (pc + 1) ls (.int x :: st) h) : AW M d post px rc rs pc ls st h := by
  intro g p l e R s m args below meth c mc ms F H locs cells slots lsA hR hL hl hc hs
  exact lv_iload_n F.1 F.2.2.1 hd hi (lk_at hl hk) (k g p l e R s m args below meth c mc ms F H locs cells slots lsA hR hL hl hc hs)
theorem s_iload {i : Nat} {x : Int32} (hd : decode (mC M) pc = .ok (.iload i, 2)) (hk : lk ls i = some (.int x)) (k : AW M d post px rc rs (pc + 2) ls (.int x :: st) h) : AW M d post px rc rs pc ls st h := by
  intro g p l e R s m args below meth c mc ms F H locs cells slots lsA hR hL hl hc hs
  exact lv_iload F.1 F.2.2.1 hd (lk_at hl hk) (k g p l e R s m args below meth c mc ms F H locs cells slots lsA hR hL hl hc hs)
theorem s_lload_n {k0 : Fin 4} {x : Int64} (i : Nat) (hd : decode (mC M) pc = .ok (.lload_n k0, 1)) (hi : (k0 : Nat) = i) (hk : lk ls i = some (.long x)) (k : AW M d post px rc rs (pc + 1) ls (.long x :: st) h) : AW M d post px rc rs pc ls st h := by
  intro g p l e R s m args below meth c mc ms F H locs cells slots lsA hR hL hl hc hs
  exact lv_lload_n F.1 F.2.2.1 hd hi (lk_at hl hk) (k g p l e R s m args below meth c mc ms F H locs cells slots lsA hR hL hl hc hs)
theorem s_lload {i : Nat} {x : Int64} (hd : decode (mC M) pc = .ok (.lload i, 2)) (hk : lk ls i = some (.long x)) (k : AW M d post px rc rs (pc + 2) ls (.long x :: st) h) : AW M d post px rc rs pc ls st h := by
  intro g p l e R s m args below meth c mc ms F H locs cells slots lsA hR hL hl hc hs
  exact lv_lload F.1 F.2.2.1 hd (lk_at hl hk) (k g p l e R s m args below meth c mc ms F H locs cells slots lsA hR hL hl hc hs)
theorem s_aload_n {k0 : Fin 4} {x : Nat} (i : Nat) (hd : decode (mC M) pc = .ok (.aload_n k0, 1)) (hi : (k0 : Nat) = i) (hk : lk ls i = some (.ref x)) (k : AW M d post px rc rs (pc + 1) ls (.ref x :: st) h) : AW M d post px rc rs pc ls st h := by
  intro g p l e R s m args below meth c mc ms F H locs cells slots lsA hR hL hl hc hs
  have h1 := lk_at hl hk
  have h2 := k g p l e R s m args below meth c mc ms F H locs cells slots lsA hR hL hl hc hs
  by_cases h0 : x = 0
  · subst h0
    exact lv_aload_nN F.1 F.2.2.1 hd hi h1 h2
  · rw [tv_p g h0] at h1
    rw [List.map_cons, tv_p g h0] at h2
    exact lv_aload_n F.1 F.2.2.1 hd hi h1 h2
theorem s_aload {i x : Nat} (hd : decode (mC M) pc = .ok (.aload i, 2)) (hk : lk ls i = some (.ref x)) (k : AW M d post px rc rs (pc + 2) ls (.ref x :: st) h) : AW M d post px rc rs pc ls st h := by
  intro g p l e R s m args below meth c mc ms F H locs cells slots lsA hR hL hl hc hs
  have h1 := lk_at hl hk
  have h2 := k g p l e R s m args below meth c mc ms F H locs cells slots lsA hR hL hl hc hs
  by_cases h0 : x = 0
  · subst h0
    exact lv_aloadN F.1 F.2.2.1 hd h1 h2
  · rw [tv_p g h0] at h1
    rw [List.map_cons, tv_p g h0] at h2
    exact lv_aload F.1 F.2.2.1 hd h1 h2
theorem s_istore_n {k0 : Fin 4} {x : Int32} {ls' : List (Nat × Value)} (i : Nat) (hd : decode (mC M) pc = .ok (.istore_n k0, 1)) (hi : (k0 : Nat) = i) (hn : i < mL M) (hls : st1 i (.int x) ls = ls') (k : AW M d post px rc rs (pc + 1) ls' st h) : AW M d post px rc rs pc ls (.int x :: st) h := by
  intro g p l e R s m args below meth c mc ms F H locs cells slots lsA hR hL hl hc hs
  subst hls
  exact lv_istore_n F.1 F.2.2.1 hd hi hl hn (tl_st1 g i (.int x) (.int x) ls rfl) (fun lsB hB => k g p l e R s m args below meth c mc ms F H locs cells slots lsB hR hL hB hc hs)
theorem s_istore {i : Nat} {x : Int32} {ls' : List (Nat × Value)} (hd : decode (mC M) pc = .ok (.istore i, 2)) (hn : i < mL M) (hls : st1 i (.int x) ls = ls') (k : AW M d post px rc rs (pc + 2) ls' st h) : AW M d post px rc rs pc ls (.int x :: st) h := by
  intro g p l e R s m args below meth c mc ms F H locs cells slots lsA hR hL hl hc hs
  subst hls
  exact lv_istore F.1 F.2.2.1 hd hl hn (tl_st1 g i (.int x) (.int x) ls rfl) (fun lsB hB => k g p l e R s m args below meth c mc ms F H locs cells slots lsB hR hL hB hc hs)
theorem s_lstore_n {k0 : Fin 4} {x : Int64} {ls' : List (Nat × Value)} (i : Nat) (hd : decode (mC M) pc = .ok (.lstore_n k0, 1)) (hi : (k0 : Nat) = i) (hn : i + 1 < mL M) (hls : st2 i (.long x) ls = ls') (k : AW M d post px rc rs (pc + 1) ls' st h) : AW M d post px rc rs pc ls (.long x :: st) h := by
  intro g p l e R s m args below meth c mc ms F H locs cells slots lsA hR hL hl hc hs
  subst hls
  exact lv_lstore_n F.1 F.2.2.1 hd hi hl hn (tl_st2 g i (.long x) (.long x) ls rfl) (fun lsB hB => k g p l e R s m args below meth c mc ms F H locs cells slots lsB hR hL hB hc hs)
theorem s_lstore {i : Nat} {x : Int64} {ls' : List (Nat × Value)} (hd : decode (mC M) pc = .ok (.lstore i, 2)) (hn : i + 1 < mL M) (hls : st2 i (.long x) ls = ls') (k : AW M d post px rc rs (pc + 2) ls' st h) : AW M d post px rc rs pc ls (.long x :: st) h := by
  intro g p l e R s m args below meth c mc ms F H locs cells slots lsA hR hL hl hc hs
  subst hls
  exact lv_lstore F.1 F.2.2.1 hd hl hn (tl_st2 g i (.long x) (.long x) ls rfl) (fun lsB hB => k g p l e R s m args below meth c mc ms F H locs cells slots lsB hR hL hB hc hs)
theorem s_astore_n {k0 : Fin 4} {x : Nat} {ls' : List (Nat × Value)} (i : Nat) (hd : decode (mC M) pc = .ok (.astore_n k0, 1)) (hi : (k0 : Nat) = i) (hn : i < mL M) (hls : st1 i (.ref x) ls = ls') (k : AW M d post px rc rs (pc + 1) ls' st h) : AW M d post px rc rs pc ls (.ref x :: st) h := by
  intro g p l e R s m args below meth c mc ms F H locs cells slots lsA hR hL hl hc hs
  subst hls
  have k2 := fun lsB hB => k g p l e R s m args below meth c mc ms F H locs cells slots lsB hR hL hB hc hs
  by_cases h0 : x = 0
  · subst h0
    exact lv_astore_nN F.1 F.2.2.1 hd hi hl hn (tl_st1 g i (.ref 0) .null ls rfl) k2
  · rw [List.map_cons, tv_p g h0]
    exact lv_astore_n F.1 F.2.2.1 hd hi hl hn (tl_st1 g i (.ref x) (.ref (ad g x)) ls (tv_p g h0)) k2
theorem s_astore {i x : Nat} {ls' : List (Nat × Value)} (hd : decode (mC M) pc = .ok (.astore i, 2)) (hn : i < mL M) (hls : st1 i (.ref x) ls = ls') (k : AW M d post px rc rs (pc + 2) ls' st h) : AW M d post px rc rs pc ls (.ref x :: st) h := by
  intro g p l e R s m args below meth c mc ms F H locs cells slots lsA hR hL hl hc hs
  subst hls
  have k2 := fun lsB hB => k g p l e R s m args below meth c mc ms F H locs cells slots lsB hR hL hB hc hs
  by_cases h0 : x = 0
  · subst h0
    exact lv_astoreN F.1 F.2.2.1 hd hl hn (tl_st1 g i (.ref 0) .null ls rfl) k2
  · rw [List.map_cons, tv_p g h0]
    exact lv_astore F.1 F.2.2.1 hd hl hn (tl_st1 g i (.ref x) (.ref (ad g x)) ls (tv_p g h0)) k2
theorem s_iinc {i : Nat} {n : Int} {x v : Int32} {ls' : List (Nat × Value)} (hd : decode (mC M) pc = .ok (.iinc i n, 3)) (hk : lk ls i = some (.int x)) (hv : x + Int32.ofInt n = v) (hn : i < mL M) (hls : st1 i (.int v) ls = ls') (k : AW M d post px rc rs (pc + 3) ls' st h) : AW M d post px rc rs pc ls st h := by
  intro g p l e R s m args below meth c mc ms F H locs cells slots lsA hR hL hl hc hs
  subst hls
  obtain ⟨j, hj⟩ := List.getElem?_of_mem (List.mem_map.mpr ⟨(i, Value.int x), lk_in hk, rfl⟩ : (i, tv g (.int x)) ∈ tl g ls)
  exact lv_iinc F.1 F.2.2.1 hd hl hj hv hn (tl_st1 g i (.int v) (.int v) ls rfl) (fun lsB hB => k g p l e R s m args below meth c mc ms F H locs cells slots lsB hR hL hB hc hs)
theorem s_iadd {x y : Int32} (hd : decode (mC M) pc = .ok (.iadd, 1)) (k : AW M d post px rc rs (pc + 1) ls (.int (x + y) :: st) h) : AW M d post px rc rs pc ls (.int y :: .int x :: st) h := by
  intro g p l e R s m args below meth c mc ms F H locs cells slots lsA hR hL hl hc hs
  exact lv_iadd F.1 F.2.2.1 hd (k g p l e R s m args below meth c mc ms F H locs cells slots lsA hR hL hl hc hs)
theorem s_isub {x y : Int32} (hd : decode (mC M) pc = .ok (.isub, 1)) (k : AW M d post px rc rs (pc + 1) ls (.int (x - y) :: st) h) : AW M d post px rc rs pc ls (.int y :: .int x :: st) h := by
  intro g p l e R s m args below meth c mc ms F H locs cells slots lsA hR hL hl hc hs
  exact lv_isub F.1 F.2.2.1 hd (k g p l e R s m args below meth c mc ms F H locs cells slots lsA hR hL hl hc hs)
theorem s_imul {x y : Int32} (hd : decode (mC M) pc = .ok (.imul, 1)) (k : AW M d post px rc rs (pc + 1) ls (.int (x * y) :: st) h) : AW M d post px rc rs pc ls (.int y :: .int x :: st) h := by
  intro g p l e R s m args below meth c mc ms F H locs cells slots lsA hR hL hl hc hs
  exact lv_imul F.1 F.2.2.1 hd (k g p l e R s m args below meth c mc ms F H locs cells slots lsA hR hL hl hc hs)
theorem s_iand {x y : Int32} (hd : decode (mC M) pc = .ok (.iand, 1)) (k : AW M d post px rc rs (pc + 1) ls (.int (x &&& y) :: st) h) : AW M d post px rc rs pc ls (.int y :: .int x :: st) h := by
  intro g p l e R s m args below meth c mc ms F H locs cells slots lsA hR hL hl hc hs
  exact lv_iand F.1 F.2.2.1 hd (k g p l e R s m args below meth c mc ms F H locs cells slots lsA hR hL hl hc hs)
theorem s_ior {x y : Int32} (hd : decode (mC M) pc = .ok (.ior, 1)) (k : AW M d post px rc rs (pc + 1) ls (.int (x ||| y) :: st) h) : AW M d post px rc rs pc ls (.int y :: .int x :: st) h := by
  intro g p l e R s m args below meth c mc ms F H locs cells slots lsA hR hL hl hc hs
  exact lv_ior F.1 F.2.2.1 hd (k g p l e R s m args below meth c mc ms F H locs cells slots lsA hR hL hl hc hs)
theorem s_ixor {x y : Int32} (hd : decode (mC M) pc = .ok (.ixor, 1)) (k : AW M d post px rc rs (pc + 1) ls (.int (x ^^^ y) :: st) h) : AW M d post px rc rs pc ls (.int y :: .int x :: st) h := by
  intro g p l e R s m args below meth c mc ms F H locs cells slots lsA hR hL hl hc hs
  exact lv_ixor F.1 F.2.2.1 hd (k g p l e R s m args below meth c mc ms F H locs cells slots lsA hR hL hl hc hs)
theorem s_idiv {x y : Int32} (hd : decode (mC M) pc = .ok (.idiv, 1)) (hne : ¬ y = 0) (k : AW M d post px rc rs (pc + 1) ls (.int (x / y) :: st) h) : AW M d post px rc rs pc ls (.int y :: .int x :: st) h := by
  intro g p l e R s m args below meth c mc ms F H locs cells slots lsA hR hL hl hc hs
  exact lv_idiv F.1 F.2.2.1 hd hne (k g p l e R s m args below meth c mc ms F H locs cells slots lsA hR hL hl hc hs)
theorem s_irem {x y : Int32} (hd : decode (mC M) pc = .ok (.irem, 1)) (hne : ¬ y = 0) (k : AW M d post px rc rs (pc + 1) ls (.int (x - x / y * y) :: st) h) : AW M d post px rc rs pc ls (.int y :: .int x :: st) h := by
  intro g p l e R s m args below meth c mc ms F H locs cells slots lsA hR hL hl hc hs
  exact lv_irem F.1 F.2.2.1 hd hne (k g p l e R s m args below meth c mc ms F H locs cells slots lsA hR hL hl hc hs)
theorem s_ladd {x y : Int64} (hd : decode (mC M) pc = .ok (.ladd, 1)) (k : AW M d post px rc rs (pc + 1) ls (.long (x + y) :: st) h) : AW M d post px rc rs pc ls (.long y :: .long x :: st) h := by
  intro g p l e R s m args below meth c mc ms F H locs cells slots lsA hR hL hl hc hs
  exact lv_ladd F.1 F.2.2.1 hd (k g p l e R s m args below meth c mc ms F H locs cells slots lsA hR hL hl hc hs)
theorem s_lsub {x y : Int64} (hd : decode (mC M) pc = .ok (.lsub, 1)) (k : AW M d post px rc rs (pc + 1) ls (.long (x - y) :: st) h) : AW M d post px rc rs pc ls (.long y :: .long x :: st) h := by
  intro g p l e R s m args below meth c mc ms F H locs cells slots lsA hR hL hl hc hs
  exact lv_lsub F.1 F.2.2.1 hd (k g p l e R s m args below meth c mc ms F H locs cells slots lsA hR hL hl hc hs)
theorem s_lmul {x y : Int64} (hd : decode (mC M) pc = .ok (.lmul, 1)) (k : AW M d post px rc rs (pc + 1) ls (.long (x * y) :: st) h) : AW M d post px rc rs pc ls (.long y :: .long x :: st) h := by
  intro g p l e R s m args below meth c mc ms F H locs cells slots lsA hR hL hl hc hs
  exact lv_lmul F.1 F.2.2.1 hd (k g p l e R s m args below meth c mc ms F H locs cells slots lsA hR hL hl hc hs)
theorem s_land {x y : Int64} (hd : decode (mC M) pc = .ok (.land, 1)) (k : AW M d post px rc rs (pc + 1) ls (.long (x &&& y) :: st) h) : AW M d post px rc rs pc ls (.long y :: .long x :: st) h := by
  intro g p l e R s m args below meth c mc ms F H locs cells slots lsA hR hL hl hc hs
  exact lv_land F.1 F.2.2.1 hd (k g p l e R s m args below meth c mc ms F H locs cells slots lsA hR hL hl hc hs)
theorem s_lor {x y : Int64} (hd : decode (mC M) pc = .ok (.lor, 1)) (k : AW M d post px rc rs (pc + 1) ls (.long (x ||| y) :: st) h) : AW M d post px rc rs pc ls (.long y :: .long x :: st) h := by
  intro g p l e R s m args below meth c mc ms F H locs cells slots lsA hR hL hl hc hs
  exact lv_lor F.1 F.2.2.1 hd (k g p l e R s m args below meth c mc ms F H locs cells slots lsA hR hL hl hc hs)
theorem s_lxor {x y : Int64} (hd : decode (mC M) pc = .ok (.lxor, 1)) (k : AW M d post px rc rs (pc + 1) ls (.long (x ^^^ y) :: st) h) : AW M d post px rc rs pc ls (.long y :: .long x :: st) h := by
  intro g p l e R s m args below meth c mc ms F H locs cells slots lsA hR hL hl hc hs
  exact lv_lxor F.1 F.2.2.1 hd (k g p l e R s m args below meth c mc ms F H locs cells slots lsA hR hL hl hc hs)
theorem s_ldiv {x y : Int64} (hd : decode (mC M) pc = .ok (.ldiv, 1)) (hne : ¬ y = 0) (k : AW M d post px rc rs (pc + 1) ls (.long (x / y) :: st) h) : AW M d post px rc rs pc ls (.long y :: .long x :: st) h := by
  intro g p l e R s m args below meth c mc ms F H locs cells slots lsA hR hL hl hc hs
  exact lv_ldiv F.1 F.2.2.1 hd hne (k g p l e R s m args below meth c mc ms F H locs cells slots lsA hR hL hl hc hs)
theorem s_lrem {x y : Int64} (hd : decode (mC M) pc = .ok (.lrem, 1)) (hne : ¬ y = 0) (k : AW M d post px rc rs (pc + 1) ls (.long (x - x / y * y) :: st) h) : AW M d post px rc rs pc ls (.long y :: .long x :: st) h := by
  intro g p l e R s m args below meth c mc ms F H locs cells slots lsA hR hL hl hc hs
  exact lv_lrem F.1 F.2.2.1 hd hne (k g p l e R s m args below meth c mc ms F H locs cells slots lsA hR hL hl hc hs)
theorem s_ineg {x : Int32} (hd : decode (mC M) pc = .ok (.ineg, 1)) (k : AW M d post px rc rs (pc + 1) ls (.int (-x) :: st) h) : AW M d post px rc rs pc ls (.int x :: st) h := by
  intro g p l e R s m args below meth c mc ms F H locs cells slots lsA hR hL hl hc hs
  exact lv_ineg F.1 F.2.2.1 hd (k g p l e R s m args below meth c mc ms F H locs cells slots lsA hR hL hl hc hs)
theorem s_ishl {x y : Int32} (hd : decode (mC M) pc = .ok (.ishl, 1)) (k : AW M d post px rc rs (pc + 1) ls (.int (x <<< (y &&& 31)) :: st) h) : AW M d post px rc rs pc ls (.int y :: .int x :: st) h := by
  intro g p l e R s m args below meth c mc ms F H locs cells slots lsA hR hL hl hc hs
  exact lv_ishl F.1 F.2.2.1 hd (k g p l e R s m args below meth c mc ms F H locs cells slots lsA hR hL hl hc hs)
theorem s_ishr {x y : Int32} (hd : decode (mC M) pc = .ok (.ishr, 1)) (k : AW M d post px rc rs (pc + 1) ls (.int (x >>> (y &&& 31)) :: st) h) : AW M d post px rc rs pc ls (.int y :: .int x :: st) h := by
  intro g p l e R s m args below meth c mc ms F H locs cells slots lsA hR hL hl hc hs
  exact lv_ishr F.1 F.2.2.1 hd (k g p l e R s m args below meth c mc ms F H locs cells slots lsA hR hL hl hc hs)
theorem s_iushr {x y v : Int32} (hd : decode (mC M) pc = .ok (.iushr, 1)) (hv : (x.toUInt32 >>> (y.toUInt32 &&& Int32.toUInt32 31)).toInt32 = v) (k : AW M d post px rc rs (pc + 1) ls (.int v :: st) h) : AW M d post px rc rs pc ls (.int y :: .int x :: st) h := by
  intro g p l e R s m args below meth c mc ms F H locs cells slots lsA hR hL hl hc hs
  exact lv_iushr F.1 F.2.2.1 hd hv (k g p l e R s m args below meth c mc ms F H locs cells slots lsA hR hL hl hc hs)
theorem s_lshl {x v : Int64} {y : Int32} (hd : decode (mC M) pc = .ok (.lshl, 1)) (hv : x <<< (y.toInt64 &&& 63) = v) (k : AW M d post px rc rs (pc + 1) ls (.long v :: st) h) : AW M d post px rc rs pc ls (.int y :: .long x :: st) h := by
  intro g p l e R s m args below meth c mc ms F H locs cells slots lsA hR hL hl hc hs
  exact lv_lshl F.1 F.2.2.1 hd hv (k g p l e R s m args below meth c mc ms F H locs cells slots lsA hR hL hl hc hs)
theorem s_i2l {x : Int32} (hd : decode (mC M) pc = .ok (.i2l, 1)) (k : AW M d post px rc rs (pc + 1) ls (.long x.toInt64 :: st) h) : AW M d post px rc rs pc ls (.int x :: st) h := by
  intro g p l e R s m args below meth c mc ms F H locs cells slots lsA hR hL hl hc hs
  exact lv_i2l F.1 F.2.2.1 hd rfl (k g p l e R s m args below meth c mc ms F H locs cells slots lsA hR hL hl hc hs)
theorem s_l2i {x : Int64} (hd : decode (mC M) pc = .ok (.l2i, 1)) (k : AW M d post px rc rs (pc + 1) ls (.int x.toInt32 :: st) h) : AW M d post px rc rs pc ls (.long x :: st) h := by
  intro g p l e R s m args below meth c mc ms F H locs cells slots lsA hR hL hl hc hs
  exact lv_l2i F.1 F.2.2.1 hd rfl (k g p l e R s m args below meth c mc ms F H locs cells slots lsA hR hL hl hc hs)
theorem s_i2b {x : Int32} (hd : decode (mC M) pc = .ok (.i2b, 1)) (k : AW M d post px rc rs (pc + 1) ls (.int x.toInt8.toInt32 :: st) h) : AW M d post px rc rs pc ls (.int x :: st) h := by
  intro g p l e R s m args below meth c mc ms F H locs cells slots lsA hR hL hl hc hs
  exact lv_i2b F.1 F.2.2.1 hd rfl (k g p l e R s m args below meth c mc ms F H locs cells slots lsA hR hL hl hc hs)
theorem s_i2s {x : Int32} (hd : decode (mC M) pc = .ok (.i2s, 1)) (k : AW M d post px rc rs (pc + 1) ls (.int x.toInt16.toInt32 :: st) h) : AW M d post px rc rs pc ls (.int x :: st) h := by
  intro g p l e R s m args below meth c mc ms F H locs cells slots lsA hR hL hl hc hs
  exact lv_i2s F.1 F.2.2.1 hd rfl (k g p l e R s m args below meth c mc ms F H locs cells slots lsA hR hL hl hc hs)
theorem s_i2c {x : Int32} (hd : decode (mC M) pc = .ok (.i2c, 1)) (k : AW M d post px rc rs (pc + 1) ls (.int (x.toUInt32 % 65536).toInt32 :: st) h) : AW M d post px rc rs pc ls (.int x :: st) h := by
  intro g p l e R s m args below meth c mc ms F H locs cells slots lsA hR hL hl hc hs
  exact lv_i2c F.1 F.2.2.1 hd rfl (k g p l e R s m args below meth c mc ms F H locs cells slots lsA hR hL hl hc hs)
theorem s_dup {v : Value} (hd : decode (mC M) pc = .ok (.dup, 1)) (hv : v.category = 1) (k : AW M d post px rc rs (pc + 1) ls (v :: v :: st) h) : AW M d post px rc rs pc ls (v :: st) h := by
  intro g p l e R s m args below meth c mc ms F H locs cells slots lsA hR hL hl hc hs
  exact lv_dup F.1 F.2.2.1 hd ((tv_cat g v).trans hv) (k g p l e R s m args below meth c mc ms F H locs cells slots lsA hR hL hl hc hs)
theorem s_pop {v : Value} (hd : decode (mC M) pc = .ok (.pop, 1)) (hv : v.category = 1) (k : AW M d post px rc rs (pc + 1) ls st h) : AW M d post px rc rs pc ls (v :: st) h := by
  intro g p l e R s m args below meth c mc ms F H locs cells slots lsA hR hL hl hc hs
  exact lv_pop F.1 F.2.2.1 hd ((tv_cat g v).trans hv) (k g p l e R s m args below meth c mc ms F H locs cells slots lsA hR hL hl hc hs)
theorem s_dup_x1 {v w : Value} (hd : decode (mC M) pc = .ok (.dup_x1, 1)) (hv : v.category = 1) (hw : w.category = 1) (k : AW M d post px rc rs (pc + 1) ls (v :: w :: v :: st) h) : AW M d post px rc rs pc ls (v :: w :: st) h := by
  intro g p l e R s m args below meth c mc ms F H locs cells slots lsA hR hL hl hc hs
  exact lv_dup_x1 F.1 F.2.2.1 hd ((tv_cat g v).trans hv) ((tv_cat g w).trans hw) (k g p l e R s m args below meth c mc ms F H locs cells slots lsA hR hL hl hc hs)
theorem s_dup2 {v w : Value} (hd : decode (mC M) pc = .ok (.dup2, 1)) (hv : v.category = 1) (hw : w.category = 1) (k : AW M d post px rc rs (pc + 1) ls (v :: w :: v :: w :: st) h) : AW M d post px rc rs pc ls (v :: w :: st) h := by
  intro g p l e R s m args below meth c mc ms F H locs cells slots lsA hR hL hl hc hs
  exact lv_dup2_11 F.1 F.2.2.1 hd ((tv_cat g v).trans hv) ((tv_cat g w).trans hw) (k g p l e R s m args below meth c mc ms F H locs cells slots lsA hR hL hl hc hs)
theorem s_pop2 {v : Value} (hd : decode (mC M) pc = .ok (.pop2, 1)) (hv : v.category = 2) (k : AW M d post px rc rs (pc + 1) ls st h) : AW M d post px rc rs pc ls (v :: st) h := by
  intro g p l e R s m args below meth c mc ms F H locs cells slots lsA hR hL hl hc hs
  exact lv_pop2_2 F.1 F.2.2.1 hd ((tv_cat g v).trans hv) (k g p l e R s m args below meth c mc ms F H locs cells slots lsA hR hL hl hc hs)
theorem s_if_eq {x : Int32} {off : Int} (tgt : Nat) (hd : decode (mC M) pc = .ok (.ifCond .eq off, 3)) (ht : (pc : Int) + off = (tgt : Int)) (kt : x = 0 → AW M d post px rc rs tgt ls st h) (kf : ¬ x = 0 → AW M d post px rc rs (pc + 3) ls st h) : AW M d post px rc rs pc ls (.int x :: st) h := by
  intro g p l e R s m args below meth c mc ms F H locs cells slots lsA hR hL hl hc hs
  exact lv_if_eq F.1 F.2.2.1 hd ht (fun z => kt z g p l e R s m args below meth c mc ms F H locs cells slots lsA hR hL hl hc hs) (fun z => kf z g p l e R s m args below meth c mc ms F H locs cells slots lsA hR hL hl hc hs)
theorem s_icmp_eq {x y : Int32} {off : Int} (tgt : Nat) (hd : decode (mC M) pc = .ok (.if_icmp .eq off, 3)) (ht : (pc : Int) + off = (tgt : Int)) (kt : x = y → AW M d post px rc rs tgt ls st h) (kf : ¬ x = y → AW M d post px rc rs (pc + 3) ls st h) : AW M d post px rc rs pc ls (.int y :: .int x :: st) h := by
  intro g p l e R s m args below meth c mc ms F H locs cells slots lsA hR hL hl hc hs
  exact lv_icmp_eq F.1 F.2.2.1 hd ht (fun z => kt z g p l e R s m args below meth c mc ms F H locs cells slots lsA hR hL hl hc hs) (fun z => kf z g p l e R s m args below meth c mc ms F H locs cells slots lsA hR hL hl hc hs)
theorem s_if_ne {x : Int32} {off : Int} (tgt : Nat) (hd : decode (mC M) pc = .ok (.ifCond .ne off, 3)) (ht : (pc : Int) + off = (tgt : Int)) (kt : ¬ x = 0 → AW M d post px rc rs tgt ls st h) (kf : x = 0 → AW M d post px rc rs (pc + 3) ls st h) : AW M d post px rc rs pc ls (.int x :: st) h := by
  intro g p l e R s m args below meth c mc ms F H locs cells slots lsA hR hL hl hc hs
  exact lv_if_ne F.1 F.2.2.1 hd ht (fun z => kt z g p l e R s m args below meth c mc ms F H locs cells slots lsA hR hL hl hc hs) (fun z => kf z g p l e R s m args below meth c mc ms F H locs cells slots lsA hR hL hl hc hs)
theorem s_icmp_ne {x y : Int32} {off : Int} (tgt : Nat) (hd : decode (mC M) pc = .ok (.if_icmp .ne off, 3)) (ht : (pc : Int) + off = (tgt : Int)) (kt : ¬ x = y → AW M d post px rc rs tgt ls st h) (kf : x = y → AW M d post px rc rs (pc + 3) ls st h) : AW M d post px rc rs pc ls (.int y :: .int x :: st) h := by
  intro g p l e R s m args below meth c mc ms F H locs cells slots lsA hR hL hl hc hs
  exact lv_icmp_ne F.1 F.2.2.1 hd ht (fun z => kt z g p l e R s m args below meth c mc ms F H locs cells slots lsA hR hL hl hc hs) (fun z => kf z g p l e R s m args below meth c mc ms F H locs cells slots lsA hR hL hl hc hs)
theorem s_if_lt {x : Int32} {off : Int} (tgt : Nat) (hd : decode (mC M) pc = .ok (.ifCond .lt off, 3)) (ht : (pc : Int) + off = (tgt : Int)) (kt : x < 0 → AW M d post px rc rs tgt ls st h) (kf : ¬ x < 0 → AW M d post px rc rs (pc + 3) ls st h) : AW M d post px rc rs pc ls (.int x :: st) h := by
  intro g p l e R s m args below meth c mc ms F H locs cells slots lsA hR hL hl hc hs
  exact lv_if_lt F.1 F.2.2.1 hd ht (fun z => kt z g p l e R s m args below meth c mc ms F H locs cells slots lsA hR hL hl hc hs) (fun z => kf z g p l e R s m args below meth c mc ms F H locs cells slots lsA hR hL hl hc hs)
theorem s_icmp_lt {x y : Int32} {off : Int} (tgt : Nat) (hd : decode (mC M) pc = .ok (.if_icmp .lt off, 3)) (ht : (pc : Int) + off = (tgt : Int)) (kt : x < y → AW M d post px rc rs tgt ls st h) (kf : ¬ x < y → AW M d post px rc rs (pc + 3) ls st h) : AW M d post px rc rs pc ls (.int y :: .int x :: st) h := by
  intro g p l e R s m args below meth c mc ms F H locs cells slots lsA hR hL hl hc hs
  exact lv_icmp_lt F.1 F.2.2.1 hd ht (fun z => kt z g p l e R s m args below meth c mc ms F H locs cells slots lsA hR hL hl hc hs) (fun z => kf z g p l e R s m args below meth c mc ms F H locs cells slots lsA hR hL hl hc hs)
theorem s_if_ge {x : Int32} {off : Int} (tgt : Nat) (hd : decode (mC M) pc = .ok (.ifCond .ge off, 3)) (ht : (pc : Int) + off = (tgt : Int)) (kt : 0 ≤ x → AW M d post px rc rs tgt ls st h) (kf : ¬ 0 ≤ x → AW M d post px rc rs (pc + 3) ls st h) : AW M d post px rc rs pc ls (.int x :: st) h := by
  intro g p l e R s m args below meth c mc ms F H locs cells slots lsA hR hL hl hc hs
  exact lv_if_ge F.1 F.2.2.1 hd ht (fun z => kt z g p l e R s m args below meth c mc ms F H locs cells slots lsA hR hL hl hc hs) (fun z => kf z g p l e R s m args below meth c mc ms F H locs cells slots lsA hR hL hl hc hs)
theorem s_icmp_ge {x y : Int32} {off : Int} (tgt : Nat) (hd : decode (mC M) pc = .ok (.if_icmp .ge off, 3)) (ht : (pc : Int) + off = (tgt : Int)) (kt : y ≤ x → AW M d post px rc rs tgt ls st h) (kf : ¬ y ≤ x → AW M d post px rc rs (pc + 3) ls st h) : AW M d post px rc rs pc ls (.int y :: .int x :: st) h := by
  intro g p l e R s m args below meth c mc ms F H locs cells slots lsA hR hL hl hc hs
  exact lv_icmp_ge F.1 F.2.2.1 hd ht (fun z => kt z g p l e R s m args below meth c mc ms F H locs cells slots lsA hR hL hl hc hs) (fun z => kf z g p l e R s m args below meth c mc ms F H locs cells slots lsA hR hL hl hc hs)
theorem s_if_gt {x : Int32} {off : Int} (tgt : Nat) (hd : decode (mC M) pc = .ok (.ifCond .gt off, 3)) (ht : (pc : Int) + off = (tgt : Int)) (kt : 0 < x → AW M d post px rc rs tgt ls st h) (kf : ¬ 0 < x → AW M d post px rc rs (pc + 3) ls st h) : AW M d post px rc rs pc ls (.int x :: st) h := by
  intro g p l e R s m args below meth c mc ms F H locs cells slots lsA hR hL hl hc hs
  exact lv_if_gt F.1 F.2.2.1 hd ht (fun z => kt z g p l e R s m args below meth c mc ms F H locs cells slots lsA hR hL hl hc hs) (fun z => kf z g p l e R s m args below meth c mc ms F H locs cells slots lsA hR hL hl hc hs)
theorem s_icmp_gt {x y : Int32} {off : Int} (tgt : Nat) (hd : decode (mC M) pc = .ok (.if_icmp .gt off, 3)) (ht : (pc : Int) + off = (tgt : Int)) (kt : y < x → AW M d post px rc rs tgt ls st h) (kf : ¬ y < x → AW M d post px rc rs (pc + 3) ls st h) : AW M d post px rc rs pc ls (.int y :: .int x :: st) h := by
  intro g p l e R s m args below meth c mc ms F H locs cells slots lsA hR hL hl hc hs
  exact lv_icmp_gt F.1 F.2.2.1 hd ht (fun z => kt z g p l e R s m args below meth c mc ms F H locs cells slots lsA hR hL hl hc hs) (fun z => kf z g p l e R s m args below meth c mc ms F H locs cells slots lsA hR hL hl hc hs)
theorem s_if_le {x : Int32} {off : Int} (tgt : Nat) (hd : decode (mC M) pc = .ok (.ifCond .le off, 3)) (ht : (pc : Int) + off = (tgt : Int)) (kt : x ≤ 0 → AW M d post px rc rs tgt ls st h) (kf : ¬ x ≤ 0 → AW M d post px rc rs (pc + 3) ls st h) : AW M d post px rc rs pc ls (.int x :: st) h := by
  intro g p l e R s m args below meth c mc ms F H locs cells slots lsA hR hL hl hc hs
  exact lv_if_le F.1 F.2.2.1 hd ht (fun z => kt z g p l e R s m args below meth c mc ms F H locs cells slots lsA hR hL hl hc hs) (fun z => kf z g p l e R s m args below meth c mc ms F H locs cells slots lsA hR hL hl hc hs)
theorem s_icmp_le {x y : Int32} {off : Int} (tgt : Nat) (hd : decode (mC M) pc = .ok (.if_icmp .le off, 3)) (ht : (pc : Int) + off = (tgt : Int)) (kt : x ≤ y → AW M d post px rc rs tgt ls st h) (kf : ¬ x ≤ y → AW M d post px rc rs (pc + 3) ls st h) : AW M d post px rc rs pc ls (.int y :: .int x :: st) h := by
  intro g p l e R s m args below meth c mc ms F H locs cells slots lsA hR hL hl hc hs
  exact lv_icmp_le F.1 F.2.2.1 hd ht (fun z => kt z g p l e R s m args below meth c mc ms F H locs cells slots lsA hR hL hl hc hs) (fun z => kf z g p l e R s m args below meth c mc ms F H locs cells slots lsA hR hL hl hc hs)
theorem s_goto {off : Int} (tgt : Nat) (hd : decode (mC M) pc = .ok (.goto off, 3)) (ht : (pc : Int) + off = (tgt : Int)) (k : AW M d post px rc rs tgt ls st h) : AW M d post px rc rs pc ls st h := by
  intro g p l e R s m args below meth c mc ms F H locs cells slots lsA hR hL hl hc hs
  exact lv_goto F.1 F.2.2.1 hd ht (k g p l e R s m args below meth c mc ms F H locs cells slots lsA hR hL hl hc hs)
theorem s_ifnull {x : Nat} {off : Int} (tgt : Nat) (hd : decode (mC M) pc = .ok (.ifnull off, 3)) (ht : (pc : Int) + off = (tgt : Int)) (kt : x = 0 → AW M d post px rc rs tgt ls st h) (kf : ¬ x = 0 → AW M d post px rc rs (pc + 3) ls st h) : AW M d post px rc rs pc ls (.ref x :: st) h := by
  intro g p l e R s m args below meth c mc ms F H locs cells slots lsA hR hL hl hc hs
  by_cases h0 : x = 0
  · have k2 := kt h0 g p l e R s m args below meth c mc ms F H locs cells slots lsA hR hL hl hc hs
    subst h0
    exact lv_ifnullN F.1 F.2.2.1 hd ht k2
  · rw [List.map_cons, tv_p g h0]
    exact lv_ifnull F.1 F.2.2.1 hd (kf h0 g p l e R s m args below meth c mc ms F H locs cells slots lsA hR hL hl hc hs)
theorem s_ifnonnull {x : Nat} {off : Int} (tgt : Nat) (hd : decode (mC M) pc = .ok (.ifnonnull off, 3)) (ht : (pc : Int) + off = (tgt : Int)) (kt : ¬ x = 0 → AW M d post px rc rs tgt ls st h) (kf : x = 0 → AW M d post px rc rs (pc + 3) ls st h) : AW M d post px rc rs pc ls (.ref x :: st) h := by
  intro g p l e R s m args below meth c mc ms F H locs cells slots lsA hR hL hl hc hs
  by_cases h0 : x = 0
  · have k2 := kf h0 g p l e R s m args below meth c mc ms F H locs cells slots lsA hR hL hl hc hs
    subst h0
    exact lv_ifnonnullN F.1 F.2.2.1 hd k2
  · rw [List.map_cons, tv_p g h0]
    exact lv_ifnonnull F.1 F.2.2.1 hd ht (kt h0 g p l e R s m args below meth c mc ms F H locs cells slots lsA hR hL hl hc hs)
theorem s_lookup {dflt : Int} {ps : Array (Int × Int)} {len : Nat} {x : Int32} {off : Int} (tgt : Nat) (hd : decode (mC M) pc = .ok (.lookupswitch dflt ps, len)) (hp : (ps.toList.zip (ps.toList.drop 1)).all (fun (a, next) => a.1 < next.1) = true) (ho : Op.lookupswitch.offset ps.toList dflt x.toInt = off) (ht : (pc : Int) + off = (tgt : Int)) (k : AW M d post px rc rs tgt ls st h) : AW M d post px rc rs pc ls (.int x :: st) h := by
  intro g p l e R s m args below meth c mc ms F H locs cells slots lsA hR hL hl hc hs
  exact lv_lookup F.1 F.2.2.1 hd hp ho ht (k g p l e R s m args below meth c mc ms F H locs cells slots lsA hR hL hl hc hs)
theorem s_tableOut {dflt lo hi : Int} {offs : Array Int} {len : Nat} {x : Int32} (tgt : Nat) (hd : decode (mC M) pc = .ok (.tableswitch dflt lo hi offs, len)) (hx : x.toInt < lo ∨ hi < x.toInt) (ht : (pc : Int) + dflt = (tgt : Int)) (k : AW M d post px rc rs tgt ls st h) : AW M d post px rc rs pc ls (.int x :: st) h := by
  intro g p l e R s m args below meth c mc ms F H locs cells slots lsA hR hL hl hc hs
  exact lv_tableOut F.1 F.2.2.1 hd hx ht (k g p l e R s m args below meth c mc ms F H locs cells slots lsA hR hL hl hc hs)
theorem s_tableIn {dflt lo hi : Int} {offs : Array Int} {len : Nat} {x : Int32} {off : Int} (tgt : Nat) (hd : decode (mC M) pc = .ok (.tableswitch dflt lo hi offs, len)) (h1 : ¬ x.toInt < lo) (h2 : ¬ hi < x.toInt) (ho : offs[(x.toInt - lo).toNat]? = some off) (ht : (pc : Int) + off = (tgt : Int)) (k : AW M d post px rc rs tgt ls st h) : AW M d post px rc rs pc ls (.int x :: st) h := by
  intro g p l e R s m args below meth c mc ms F H locs cells slots lsA hR hL hl hc hs
  exact lv_tableIn F.1 F.2.2.1 hd h1 h2 ho ht (k g p l e R s m args below meth c mc ms F H locs cells slots lsA hR hL hl hc hs)
theorem s_lcmp {x y : Int64} (hd : decode (mC M) pc = .ok (.lcmp, 1)) (k : AW M d post px rc rs (pc + 1) ls (.int (lg_cmp x y) :: st) h) : AW M d post px rc rs pc ls (.long y :: .long x :: st) h := by
  intro g p l e R s m args below meth c mc ms F H locs cells slots lsA hR hL hl hc hs
  exact W.lcmp F.1 F.2.2.1 hd (k g p l e R s m args below meth c mc ms F H locs cells slots lsA hR hL hl hc hs)
theorem s_return (hd : decode (mC M) pc = .ok (.return_, 1)) (hr : mR M = none) (hp : post none h) : AW M d post px rc rs pc ls [] h := by
  intro g p l e R s m args below meth c mc ms F H locs cells slots lsA hR hL hl hc hs
  refine W.widen (k := mc) (n := ms) (by omega) (by omega) (vx_ret ?_)
  exact W.vret F.1 F.2.2.1 (F.2.2.2.2.2.2.2.1.trans hr) (fun t ht _ => ⟨none, h, rfl, hp, by rw [ht]; exact hR⟩) hL hd F.2.2.2.2.2.2.2.2.1
theorem s_ireturn {v : Int32} (ty : FieldType) (hd : decode (mC M) pc = .ok (.ireturn, 1)) (hr : mR M = some ty) (hn : narrow ty (.int v) = .int v) (hp : post (some (.int v)) h) : AW M d post px rc rs pc ls [.int v] h := by
  intro g p l e R s m args below meth c mc ms F H locs cells slots lsA hR hL hl hc hs
  refine W.widen (k := mc) (n := ms) (by omega) (by omega) (vx_ret ?_)
  exact W.zret F.1 F.2.2.1 (F.2.2.2.2.2.2.2.1.trans hr) hn (fun t ht _ => ⟨some (.int v), h, rfl, hp, by rw [ht]; exact hR⟩) hL hd F.2.2.2.2.2.2.2.2.1
theorem s_lreturn {v : Int64} (hd : decode (mC M) pc = .ok (.lreturn, 1)) (hr : mR M = some .long) (hp : post (some (.long v)) h) : AW M d post px rc rs pc ls [.long v] h := by
  intro g p l e R s m args below meth c mc ms F H locs cells slots lsA hR hL hl hc hs
  refine W.widen (k := mc) (n := ms) (by omega) (by omega) (vx_ret ?_)
  exact W.lret F.1 F.2.2.1 (F.2.2.2.2.2.2.2.1.trans hr) (fun t ht _ => ⟨some (.long v), h, rfl, hp, by rw [ht]; exact hR⟩) hL hd F.2.2.2.2.2.2.2.2.1
theorem s_areturn {a : Nat} (ty : FieldType) (hd : decode (mC M) pc = .ok (.areturn, 1)) (hr : mR M = some ty) (hty : (∃ n, ty = .object n) ∨ ∃ t, ty = .array t) (hp : post (some (.ref a)) h) : AW M d post px rc rs pc ls [.ref a] h := by
  intro g p l e R s m args below meth c mc ms F H locs cells slots lsA hR hL hl hc hs
  refine W.widen (k := mc) (n := ms) (by omega) (by omega) (vx_ret ?_)
  have hv : tv g (.ref a) = .null ∨ ∃ b, tv g (.ref a) = .ref b := by
    by_cases h0 : a = 0
    · subst h0; exact Or.inl rfl
    · exact Or.inr ⟨_, tv_p g h0⟩
  exact W.aret F.1 F.2.2.1 (F.2.2.2.2.2.2.2.1.trans hr) hty hv (fun t ht _ => ⟨some (.ref a), h, rfl, hp, by rw [ht]; exact hR⟩) hL hd F.2.2.2.2.2.2.2.2.1
theorem s_athrow {a : Nat} (hd : decode (mC M) pc = .ok (.athrow, 1)) (ha : 16 ≤ a) (h0 : hK h a ≠ 0) (h9 : hK h a < 29) (k : AWX M d post px rc rs pc ls a h) : AW M d post px rc rs pc ls (.ref a :: st) h := by
  intro g p l e R s m args below meth c mc ms F H locs cells slots lsA hR hL hl hc hs
  rw [List.map_cons, tv_p g (by omega)]
  exact vx_athrow F.1 F.2.2.1 hd (k g p l e R s m args below meth c mc ms F H locs cells slots lsA _ hR hL hl hc hs ha h0 h9)
end RW
