/-! the lowest methods: comparisons, bits, looks, traces -/
set_option maxRecDepth 100000
theorem rvf {B : Bool} {h : AH} (z : B = false) : retV (.int (b2i B)) h (some (.int 0)) h := by subst z; exact ⟨rfl, rfl⟩
theorem rvt {B : Bool} {h : AH} (z : B = true) : retV (.int (b2i B)) h (some (.int 1)) h := by subst z; exact ⟨rfl, rfl⟩
theorem rve {x y : Int32} {h : AH} (z : x = y) : retV (.int x) h (some (.int y)) h := by subst z; exact ⟨rfl, rfl⟩
theorem rveL {x y : Int64} {h : AH} (z : x = y) : retV (.long x) h (some (.long y)) h := by subst z; exact ⟨rfl, rfl⟩
def inB (v lo hi : Int32) : Bool := decide (lo ≤ v ∧ v ≤ hi)
def bitB (set k : Int32) : Bool := decide ((set >>> (k &&& 31)) &&& 1 = 1)
def maxJ (a b : Int32) : Int32 := if a < b then b else a
def minJ (a b : Int32) : Int32 := if b < a then b else a
/-- what a look holds of a letter -/
def lookV (h : AH) (c : Int32) : Int32 := if c = 112 then hI h 30 0 else if c = 107 then hI h 30 1 else if c = 118 then hI h 30 2 else if c = 108 then hI h 30 3 else if c = 121 then hI h 30 4 else hI h 30 5
def isLet (c : Int32) : Prop := c = 112 ∨ c = 107 ∨ c = 118 ∨ c = 108 ∨ c = 121 ∨ c = 100
section RM
variable {M : AMt} {d : Nat} {post : Option Value → AH → Prop} {px : Nat → AH → Prop} {rc rs pc idx : Nat} {ls : List (Nat × Value)} {st : List Value} {h : AH}
theorem s_mmax {x y : Int32} (hd : decode (mC M) pc = .ok (.invokestatic idx, 3)) (q1 : Cond.methodLink (mY M).cls idx Lib.Math.max.name ∈ lw_all) (hd1 : 1 ≤ d) (hst : (st.map fun v => v.category).sum ≤ 8) (k : AW M d post px rc rs (pc + 3) ls (.int (maxJ x y) :: st) h) : AW M d post px rc rs pc ls (.int y :: .int x :: st) h := by
  intro g p l e R s m args below meth c mc ms F H locs cells slots lsA hR hL hl hc hs
  have hts := F.2.2.2.2.2.2.1
  have hRm : R = arm d mc ms := F.2.2.2.2.2.2.2.2.2.2.1
  exact va_mmax F.1 F.2.2.1 (F.2.2.2.1.trans hl.1.symm) F.2.2.2.2.2.1 (hts _ q1) (hts _ q602) (hts _ q91) (hts _ q603) (by rw [hRm]; exact hd1) (by rw [hRm, tv_lst]; show _ + 13 ≤ 40 * d; omega) (by rw [hRm]; show cells ≤ mc; omega) (by rw [hRm]; show slots ≤ ms; omega) hd (k g p l e R s m args below meth c mc ms F H locs cells slots lsA hR hL hl hc hs)
theorem s_mmin {x y : Int32} (hd : decode (mC M) pc = .ok (.invokestatic idx, 3)) (q1 : Cond.methodLink (mY M).cls idx Lib.Math.min.name ∈ lw_all) (hd1 : 1 ≤ d) (hst : (st.map fun v => v.category).sum ≤ 8) (k : AW M d post px rc rs (pc + 3) ls (.int (minJ x y) :: st) h) : AW M d post px rc rs pc ls (.int y :: .int x :: st) h := by
  intro g p l e R s m args below meth c mc ms F H locs cells slots lsA hR hL hl hc hs
  have hts := F.2.2.2.2.2.2.1
  have hRm : R = arm d mc ms := F.2.2.2.2.2.2.2.2.2.2.1
  exact va_mmin F.1 F.2.2.1 (F.2.2.2.1.trans hl.1.symm) F.2.2.2.2.2.1 (hts _ q1) (hts _ q650) (hts _ q91) (hts _ q651) (by rw [hRm]; exact hd1) (by rw [hRm, tv_lst]; show _ + 13 ≤ 40 * d; omega) (by rw [hRm]; show cells ≤ mc; omega) (by rw [hRm]; show slots ≤ ms; omega) hd (k g p l e R s m args below meth c mc ms F H locs cells slots lsA hR hL hl hc hs)
end RM
theorem c_in (v lo hi : Int32) (h : AH) : Con mX0_in 0 0 0 [.int v, .int lo, .int hi] h (retV (.int (b2i (inB v lo hi))) h) nox := by
  refine Con.of rfl rfl (Nat.le_of_ble_eq_true rfl) ?_
  refine s_iload_n 0 dX0_in_0 rfl rfl ?_
  refine s_iload_n 1 dX0_in_1 rfl rfl ?_
  refine s_icmp_lt 14 dX0_in_2 (by decide) (fun c2 => ?_) (fun c2 => ?_)
  · skip
    refine s_iconst (v := 0) dX0_in_14 rfl ?_
    exact s_ireturn .boolean dX0_in_15 rfl rfl (rvf (decide_eq_false fun z => Int32.not_le.mpr c2 z.1))
  · skip
    refine s_iload_n 0 dX0_in_5 rfl rfl ?_
    refine s_iload_n 2 dX0_in_6 rfl rfl ?_
    refine s_icmp_gt 14 dX0_in_7 (by decide) (fun c7 => ?_) (fun c7 => ?_)
    · skip
      refine s_iconst (v := 0) dX0_in_14 rfl ?_
      exact s_ireturn .boolean dX0_in_15 rfl rfl (rvf (decide_eq_false fun z => Int32.not_le.mpr c7 z.2))
    · skip
      refine s_iconst (v := 1) dX0_in_10 rfl ?_
      refine s_goto 15 dX0_in_11 (by decide) ?_
      exact s_ireturn .boolean dX0_in_15 rfl rfl (rvt (decide_eq_true ⟨Int32.not_lt.mp c2, Int32.not_lt.mp c7⟩))
theorem m_isIn (v lo hi : Int32) (h : AH) : Con mX6_isIn 0 0 0 [.int v, .int lo, .int hi] h (retV (.int (b2i (inB v lo hi))) h) nox := by
  refine Con.of rfl rfl (Nat.le_of_ble_eq_true rfl) ?_
  refine s_iload_n 0 dX6_isIn_0 rfl rfl ?_
  refine s_iload_n 1 dX6_isIn_1 rfl rfl ?_
  refine s_icmp_lt 14 dX6_isIn_2 (by decide) (fun c2 => ?_) (fun c2 => ?_)
  · skip
    refine s_iconst (v := 0) dX6_isIn_14 rfl ?_
    exact s_ireturn .boolean dX6_isIn_15 rfl rfl (rvf (decide_eq_false fun z => Int32.not_le.mpr c2 z.1))
  · skip
    refine s_iload_n 0 dX6_isIn_5 rfl rfl ?_
    refine s_iload_n 2 dX6_isIn_6 rfl rfl ?_
    refine s_icmp_gt 14 dX6_isIn_7 (by decide) (fun c7 => ?_) (fun c7 => ?_)
    · skip
      refine s_iconst (v := 0) dX6_isIn_14 rfl ?_
      exact s_ireturn .boolean dX6_isIn_15 rfl rfl (rvf (decide_eq_false fun z => Int32.not_le.mpr c7 z.2))
    · skip
      refine s_iconst (v := 1) dX6_isIn_10 rfl ?_
      refine s_goto 15 dX6_isIn_11 (by decide) ?_
      exact s_ireturn .boolean dX6_isIn_15 rfl rfl (rvt (decide_eq_true ⟨Int32.not_lt.mp c2, Int32.not_lt.mp c7⟩))
theorem c_isIn (set k : Int32) (h : AH) : Con mX0_isIn 0 0 0 [.int set, .int k] h (retV (.int (b2i (bitB set k))) h) nox := by
  refine Con.of rfl rfl (Nat.le_of_ble_eq_true rfl) ?_
  refine s_iload_n 0 dX0_isIn_0 rfl rfl ?_
  refine s_iload_n 1 dX0_isIn_1 rfl rfl ?_
  refine s_ishr dX0_isIn_2 ?_
  refine s_iconst (v := 1) dX0_isIn_3 rfl ?_
  refine s_iand dX0_isIn_4 ?_
  refine s_iconst (v := 1) dX0_isIn_5 rfl ?_
  refine s_icmp_ne 13 dX0_isIn_6 (by decide) (fun c6 => ?_) (fun c6 => ?_)
  · skip
    refine s_iconst (v := 0) dX0_isIn_13 rfl ?_
    exact s_ireturn .boolean dX0_isIn_14 rfl rfl (rvf (decide_eq_false c6))
  · skip
    refine s_iconst (v := 1) dX0_isIn_9 rfl ?_
    refine s_goto 14 dX0_isIn_10 (by decide) ?_
    exact s_ireturn .boolean dX0_isIn_14 rfl rfl (rvt (decide_eq_true c6))
theorem c_isYard (v : Int32) (h : AH) : Con mX0_isYard 1 0 0 [.int v] h (retV (.int (b2i (inB v 0 9))) h) nox := by
  refine Con.of rfl rfl (Nat.le_of_ble_eq_true rfl) ?_
  refine s_iload_n 0 dX0_isYard_0 rfl rfl ?_
  refine s_iconst (v := 0) dX0_isYard_1 rfl ?_
  refine s_bipush (v := 9) dX0_isYard_2 rfl ?_
  refine s_callS_p (M2 := mX0_in) dX0_isYard_4 q373 stX0_in rfl (c_in _ _ _ _) rfl rfl ⟨by decide, by decide, by decide⟩ (Nat.le_of_ble_eq_true rfl) ?_
  exact s_ireturn .boolean dX0_isYard_7 rfl (nb2i _) ⟨rfl, rfl⟩
theorem c_isDebt (v : Int32) (h : AH) : Con mX0_isDebt 1 0 0 [.int v] h (retV (.int (b2i (inB v 0 999))) h) nox := by
  refine Con.of rfl rfl (Nat.le_of_ble_eq_true rfl) ?_
  refine s_iload_n 0 dX0_isDebt_0 rfl rfl ?_
  refine s_iconst (v := 0) dX0_isDebt_1 rfl ?_
  refine s_sipush (v := 999) dX0_isDebt_2 rfl ?_
  refine s_callS_p (M2 := mX0_in) dX0_isDebt_5 q373 stX0_in rfl (c_in _ _ _ _) rfl rfl ⟨by decide, by decide, by decide⟩ (Nat.le_of_ble_eq_true rfl) ?_
  exact s_ireturn .boolean dX0_isDebt_8 rfl (nb2i _) ⟨rfl, rfl⟩
theorem c_isOn (v : Int32) (h : AH) : Con mX0_isOn 1 0 0 [.int v] h (retV (.int (b2i (inB v 0 20))) h) nox := by
  refine Con.of rfl rfl (Nat.le_of_ble_eq_true rfl) ?_
  refine s_iload_n 0 dX0_isOn_0 rfl rfl ?_
  refine s_iconst (v := 0) dX0_isOn_1 rfl ?_
  refine s_bipush (v := 20) dX0_isOn_2 rfl ?_
  refine s_callS_p (M2 := mX0_in) dX0_isOn_4 q373 stX0_in rfl (c_in _ _ _ _) rfl rfl ⟨by decide, by decide, by decide⟩ (Nat.le_of_ble_eq_true rfl) ?_
  exact s_ireturn .boolean dX0_isOn_7 rfl (nb2i _) ⟨rfl, rfl⟩
theorem c_isTape (v : Int32) (h : AH) : Con mX0_isTape 1 0 0 [.int v] h (retV (.int (b2i (inB v 0 5))) h) nox := by
  refine Con.of rfl rfl (Nat.le_of_ble_eq_true rfl) ?_
  refine s_iload_n 0 dX0_isTape_0 rfl rfl ?_
  refine s_iconst (v := 0) dX0_isTape_1 rfl ?_
  refine s_iconst (v := 5) dX0_isTape_2 rfl ?_
  refine s_callS_p (M2 := mX0_in) dX0_isTape_3 q373 stX0_in rfl (c_in _ _ _ _) rfl rfl ⟨by decide, by decide, by decide⟩ (Nat.le_of_ble_eq_true rfl) ?_
  exact s_ireturn .boolean dX0_isTape_6 rfl (nb2i _) ⟨rfl, rfl⟩
theorem m_isYard (v : Int32) (h : AH) : Con mX6_isYard 1 0 0 [.int v] h (retV (.int (b2i (inB v 0 9))) h) nox := by
  refine Con.of rfl rfl (Nat.le_of_ble_eq_true rfl) ?_
  refine s_iload_n 0 dX6_isYard_0 rfl rfl ?_
  refine s_iconst (v := 0) dX6_isYard_1 rfl ?_
  refine s_bipush (v := 9) dX6_isYard_2 rfl ?_
  refine s_callS_p (M2 := mX6_isIn) dX6_isYard_4 q1493 stX6_isIn rfl (m_isIn _ _ _ _) rfl rfl ⟨by decide, by decide, by decide⟩ (Nat.le_of_ble_eq_true rfl) ?_
  exact s_ireturn .boolean dX6_isYard_7 rfl (nb2i _) ⟨rfl, rfl⟩
theorem m_isTape (v : Int32) (h : AH) : Con mX6_isTape 1 0 0 [.int v] h (retV (.int (b2i (inB v 0 5))) h) nox := by
  refine Con.of rfl rfl (Nat.le_of_ble_eq_true rfl) ?_
  refine s_iload_n 0 dX6_isTape_0 rfl rfl ?_
  refine s_iconst (v := 0) dX6_isTape_1 rfl ?_
  refine s_iconst (v := 5) dX6_isTape_2 rfl ?_
  refine s_callS_p (M2 := mX6_isIn) dX6_isTape_3 q1493 stX6_isIn rfl (m_isIn _ _ _ _) rfl rfl ⟨by decide, by decide, by decide⟩ (Nat.le_of_ble_eq_true rfl) ?_
  exact s_ireturn .boolean dX6_isTape_6 rfl (nb2i _) ⟨rfl, rfl⟩
theorem c_of (c : Int32) (h : AH) (w : WF h) (hc : isLet c) : Con mX3_of 0 0 0 [.ref 30, .int c] h (retV (.int (lookV h c)) h) nox := by
  refine Con.of rfl rfl (Nat.le_of_ble_eq_true rfl) ?_
  rcases hc with rfl | rfl | rfl | rfl | rfl | rfl
  · refine s_iload_n 1 dX3_of_0 rfl rfl ?_
    refine s_tableIn 76 dX3_of_1 (by decide) (by decide) rfl (by decide) ?_
    refine s_aload_n 0 dX3_of_76 rfl rfl ?_
    refine s_getI dX3_of_77 fl_X3_7 (fo_4_0.at (wk_30 w)) ?_
    exact s_ireturn .int dX3_of_80 rfl rfl ⟨rfl, rfl⟩
  · refine s_iload_n 1 dX3_of_0 rfl rfl ?_
    refine s_tableIn 81 dX3_of_1 (by decide) (by decide) rfl (by decide) ?_
    refine s_aload_n 0 dX3_of_81 rfl rfl ?_
    refine s_getI dX3_of_82 fl_X3_13 (fo_4_1.at (wk_30 w)) ?_
    exact s_ireturn .int dX3_of_85 rfl rfl ⟨rfl, rfl⟩
  · refine s_iload_n 1 dX3_of_0 rfl rfl ?_
    refine s_tableIn 86 dX3_of_1 (by decide) (by decide) rfl (by decide) ?_
    refine s_aload_n 0 dX3_of_86 rfl rfl ?_
    refine s_getI dX3_of_87 fl_X3_16 (fo_4_2.at (wk_30 w)) ?_
    exact s_ireturn .int dX3_of_90 rfl rfl ⟨rfl, rfl⟩
  · refine s_iload_n 1 dX3_of_0 rfl rfl ?_
    refine s_tableIn 91 dX3_of_1 (by decide) (by decide) rfl (by decide) ?_
    refine s_aload_n 0 dX3_of_91 rfl rfl ?_
    refine s_getI dX3_of_92 fl_X3_19 (fo_4_3.at (wk_30 w)) ?_
    exact s_ireturn .int dX3_of_95 rfl rfl ⟨rfl, rfl⟩
  · refine s_iload_n 1 dX3_of_0 rfl rfl ?_
    refine s_tableIn 96 dX3_of_1 (by decide) (by decide) rfl (by decide) ?_
    refine s_aload_n 0 dX3_of_96 rfl rfl ?_
    refine s_getI dX3_of_97 fl_X3_22 (fo_4_4.at (wk_30 w)) ?_
    exact s_ireturn .int dX3_of_100 rfl rfl ⟨rfl, rfl⟩
  · refine s_iload_n 1 dX3_of_0 rfl rfl ?_
    refine s_tableOut 101 dX3_of_1 (by decide) (by decide) ?_
    refine s_aload_n 0 dX3_of_101 rfl rfl ?_
    refine s_getI dX3_of_102 fl_X3_25 (fo_4_5.at (wk_30 w)) ?_
    exact s_ireturn .int dX3_of_105 rfl rfl ⟨rfl, rfl⟩
/-- a comparison, standing -/
def agV (h : AH) (a : Nat) : Bool := if hI h a 1 = 60 then decide (lookV h (hI h a 0) < hI h a 2) else if hI h a 1 = 61 then decide (lookV h (hI h a 0) = hI h a 2) else decide (hI h a 2 < lookV h (hI h a 0))
theorem agV_1 {h : AH} {a : Nat} (z : hI h a 1 = 60) : agV h a = decide (lookV h (hI h a 0) < hI h a 2) := if_pos z
theorem agV_2 {h : AH} {a : Nat} (z : ¬ hI h a 1 = 60) (z2 : hI h a 1 = 61) : agV h a = decide (lookV h (hI h a 0) = hI h a 2) := (if_neg z).trans (if_pos z2)
theorem agV_3 {h : AH} {a : Nat} (z : ¬ hI h a 1 = 60) (z2 : ¬ hI h a 1 = 61) : agV h a = decide (hI h a 2 < lookV h (hI h a 0)) := (if_neg z).trans (if_neg z2)
theorem c_agHolds (a : Nat) (h : AH) (w : WF h) (hk : hK h a = 21) (hc : isLet (hI h a 0)) : Con mX20_holds 1 0 0 [.ref a, .ref 30] h (retV (.int (b2i (agV h a))) h) nox := by
  refine Con.of rfl rfl (Nat.le_of_ble_eq_true rfl) ?_
  refine s_aload_n 0 dX20_holds_0 rfl rfl ?_
  refine s_getI dX20_holds_1 fl_X20_13 (fo_21_1.at hk) ?_
  refine s_bipush (v := 60) dX20_holds_4 rfl ?_
  refine s_icmp_ne 32 dX20_holds_6 (by decide) (fun c6 => ?_) (fun c6 => ?_)
  · skip
    refine s_aload_n 0 dX20_holds_32 rfl rfl ?_
    refine s_getI dX20_holds_33 fl_X20_13 (fo_21_1.at hk) ?_
    refine s_bipush (v := 61) dX20_holds_36 rfl ?_
    refine s_icmp_ne 64 dX20_holds_38 (by decide) (fun c38 => ?_) (fun c38 => ?_)
    · skip
      refine s_aload_n 1 dX20_holds_64 rfl rfl ?_
      refine s_aload_n 0 dX20_holds_65 rfl rfl ?_
      refine s_getI dX20_holds_66 fl_X20_7 (fo_21_0.at hk) ?_
      refine s_callV_p (M2 := mX3_of) dX20_holds_69 q557 bX3_of inX3_of.2 q559 rfl (c_of _ _ w hc) rfl rfl (rk (wk_30 w) rfl rfl) ⟨by decide, by decide, by decide⟩ (Nat.le_of_ble_eq_true rfl) ?_
      refine s_aload_n 0 dX20_holds_72 rfl rfl ?_
      refine s_getI dX20_holds_73 fl_X20_16 (fo_21_2.at hk) ?_
      refine s_icmp_le 83 dX20_holds_76 (by decide) (fun c76 => ?_) (fun c76 => ?_)
      · skip
        refine s_iconst (v := 0) dX20_holds_83 rfl ?_
        exact s_ireturn .boolean dX20_holds_84 rfl rfl (rvf ((agV_3 c6 c38).trans (decide_eq_false (Int32.not_lt.mpr c76))))
      · skip
        refine s_iconst (v := 1) dX20_holds_79 rfl ?_
        refine s_goto 84 dX20_holds_80 (by decide) ?_
        exact s_ireturn .boolean dX20_holds_84 rfl rfl (rvt ((agV_3 c6 c38).trans (decide_eq_true (Int32.not_le.mp c76))))
    · skip
      refine s_aload_n 1 dX20_holds_41 rfl rfl ?_
      refine s_aload_n 0 dX20_holds_42 rfl rfl ?_
      refine s_getI dX20_holds_43 fl_X20_7 (fo_21_0.at hk) ?_
      refine s_callV_p (M2 := mX3_of) dX20_holds_46 q557 bX3_of inX3_of.2 q559 rfl (c_of _ _ w hc) rfl rfl (rk (wk_30 w) rfl rfl) ⟨by decide, by decide, by decide⟩ (Nat.le_of_ble_eq_true rfl) ?_
      refine s_aload_n 0 dX20_holds_49 rfl rfl ?_
      refine s_getI dX20_holds_50 fl_X20_16 (fo_21_2.at hk) ?_
      refine s_icmp_ne 60 dX20_holds_53 (by decide) (fun c53 => ?_) (fun c53 => ?_)
      · skip
        refine s_iconst (v := 0) dX20_holds_60 rfl ?_
        refine s_goto 84 dX20_holds_61 (by decide) ?_
        exact s_ireturn .boolean dX20_holds_84 rfl rfl (rvf ((agV_2 c6 c38).trans (decide_eq_false c53)))
      · skip
        refine s_iconst (v := 1) dX20_holds_56 rfl ?_
        refine s_goto 84 dX20_holds_57 (by decide) ?_
        exact s_ireturn .boolean dX20_holds_84 rfl rfl (rvt ((agV_2 c6 c38).trans (decide_eq_true c53)))
  · skip
    refine s_aload_n 1 dX20_holds_9 rfl rfl ?_
    refine s_aload_n 0 dX20_holds_10 rfl rfl ?_
    refine s_getI dX20_holds_11 fl_X20_7 (fo_21_0.at hk) ?_
    refine s_callV_p (M2 := mX3_of) dX20_holds_14 q557 bX3_of inX3_of.2 q559 rfl (c_of _ _ w hc) rfl rfl (rk (wk_30 w) rfl rfl) ⟨by decide, by decide, by decide⟩ (Nat.le_of_ble_eq_true rfl) ?_
    refine s_aload_n 0 dX20_holds_17 rfl rfl ?_
    refine s_getI dX20_holds_18 fl_X20_16 (fo_21_2.at hk) ?_
    refine s_icmp_ge 28 dX20_holds_21 (by decide) (fun c21 => ?_) (fun c21 => ?_)
    · skip
      refine s_iconst (v := 0) dX20_holds_28 rfl ?_
      refine s_goto 84 dX20_holds_29 (by decide) ?_
      exact s_ireturn .boolean dX20_holds_84 rfl rfl (rvf ((agV_1 c6).trans (decide_eq_false (Int32.not_lt.mpr c21))))
    · skip
      refine s_iconst (v := 1) dX20_holds_24 rfl ?_
      refine s_goto 84 dX20_holds_25 (by decide) ?_
      exact s_ireturn .boolean dX20_holds_84 rfl rfl (rvt ((agV_1 c6).trans (decide_eq_true (Int32.not_le.mp c21))))
theorem nI_of_lt {x : Int32} {n : Nat} (c : x < 20) (e : x = nI n) (hn : n < 1000000 := by assumption) : n < 20 := by
  subst e
  rw [Int32.lt_iff_toInt_lt, nI_toInt (by omega)] at c
  have : (20 : Int32).toInt = 20 := rfl
  omega
/-- a body has run -/
def ranH (h : AH) (b : Int32) : AH := sI (if hI h 31 1 < 20 then sI h 32 (hI h 31 1).toNatClampNeg b else h) 31 1 (hI h 31 1 + 1)
theorem c_ran (b : Int32) (h : AH) (w : WF h) (n : Nat) (hn : n < 1000000) (e : hI h 31 1 = nI n) : Con mX4_ran 0 0 0 [.ref 31, .int b] h (fun v h' => v = none ∧ h' = ranH h b) nox := by
  refine Con.of rfl rfl (Nat.le_of_ble_eq_true rfl) ?_
  refine s_aload_n 0 dX4_ran_0 rfl rfl ?_
  refine s_getI dX4_ran_1 fl_X4_15 (fo_5_1.at (wk_31 w)) ?_
  refine s_bipush (v := 20) dX4_ran_4 rfl ?_
  refine s_icmp_ge 19 dX4_ran_6 (by decide) (fun c6 => ?_) (fun c6 => ?_)
  · skip
    refine s_aload_n 0 dX4_ran_19 rfl rfl ?_
    refine s_dup dX4_ran_20 rfl ?_
    refine s_getI dX4_ran_21 fl_X4_15 (fo_5_1.at (wk_31 w)) ?_
    refine s_iconst (v := 1) dX4_ran_24 rfl ?_
    refine s_iadd dX4_ran_25 ?_
    refine s_putJ dX4_ran_26 fl_X4_15 (fo_5_1.at (wk_31 w)) (Nat.le_of_ble_eq_true rfl) (Or.inl (fn_at (wk_31 w) rfl)) (ty_at (wk_31 w) rfl) ?_
    exact s_return dX4_ran_29 rfl ⟨rfl, by unfold ranH; rw [if_neg (Int32.not_lt.mpr c6)]⟩
  · skip
    have c6 : hI h 31 1 < 20 := Int32.not_le.mp c6
    refine s_aload_n 0 dX4_ran_9 rfl rfl ?_
    refine s_getP dX4_ran_10 fl_X4_9 (fo_5_0.at (wk_31 w)) (wp_31_0 w) ?_
    refine s_aload_n 0 dX4_ran_13 rfl rfl ?_
    refine s_getI dX4_ran_14 fl_X4_15 (fo_5_1.at (wk_31 w)) ?_
    refine s_iload_n 1 dX4_ran_17 rfl rfl ?_
    refine s_iast (j := n) dX4_ran_18 (wk_32 w) (Nat.le_of_ble_eq_true rfl) (by rw [wn_32 w, e]; exact ix_nI (by have := nI_of_lt c6 e; omega) (by decide)) ?_
    refine s_aload_n 0 dX4_ran_19 rfl rfl ?_
    refine s_dup dX4_ran_20 rfl ?_
    refine s_getI dX4_ran_21 fl_X4_15 (fo_5_1.at (wk_31 w)) ?_
    refine s_iconst (v := 1) dX4_ran_24 rfl ?_
    refine s_iadd dX4_ran_25 ?_
    refine s_putJ dX4_ran_26 fl_X4_15 (fo_5_1.at (wk_31 w)) (Nat.le_of_ble_eq_true rfl) (Or.inl (fn_at (wk_31 w) rfl)) (ty_at (wk_31 w) rfl) ?_
    exact s_return dX4_ran_29 rfl ⟨rfl, by unfold ranH; rw [if_pos c6, show (hI h 31 1).toNatClampNeg = n by rw [e]; exact nI_clamp (by omega)]; rfl⟩
def presS (many gone : Int32) : Int32 := ((1 <<< (many &&& 31)) - 1) &&& (gone ^^^ (-1))
theorem c_present (t : Nat) (h : AH) (hk : hK h t = 2) : Con mX1_present 0 0 0 [.ref t] h (retV (.int (presS (hI h t 3) (hI h t 4))) h) nox := by
  refine Con.of rfl rfl (Nat.le_of_ble_eq_true rfl) ?_
  refine s_iconst (v := 1) dX1_present_0 rfl ?_
  refine s_aload_n 0 dX1_present_1 rfl rfl ?_
  refine s_getI dX1_present_2 fl_X1_32 (fo_2_3.at hk) ?_
  refine s_ishl dX1_present_5 ?_
  refine s_iconst (v := 1) dX1_present_6 rfl ?_
  refine s_isub dX1_present_7 ?_
  refine s_aload_n 0 dX1_present_8 rfl rfl ?_
  refine s_getI dX1_present_9 fl_X1_35 (fo_2_4.at hk) ?_
  refine s_iconst (v := -1) dX1_present_12 rfl ?_
  refine s_ixor dX1_present_13 ?_
  refine s_iand dX1_present_14 ?_
  exact s_ireturn .int dX1_present_15 rfl rfl ⟨rfl, rfl⟩
theorem c_isAway (t : Nat) (x : Int32) (h : AH) (hk : hK h t = 2) : Con mX1_isAway 1 0 0 [.ref t, .int x] h (retV (.int (b2i (bitB (hI h t 4) x))) h) nox := by
  refine Con.of rfl rfl (Nat.le_of_ble_eq_true rfl) ?_
  refine s_aload_n 0 dX1_isAway_0 rfl rfl ?_
  refine s_getI dX1_isAway_1 fl_X1_35 (fo_2_4.at hk) ?_
  refine s_iload_n 1 dX1_isAway_4 rfl rfl ?_
  refine s_callSN_p (M2 := mX0_isIn) dX1_isAway_5 q608 stX0_isIn rfl (c_isIn _ _ _) rfl rfl ⟨by decide, by decide, by decide⟩ (Nat.le_of_ble_eq_true rfl) ?_
  exact s_ireturn .boolean dX1_isAway_8 rfl (nb2i _) ⟨rfl, rfl⟩
/-- what Integer.bitCount computes -/
def bc1 (x : Int32) : Int32 := x - ((x.toUInt32 >>> ((1 : Int32).toUInt32 &&& Int32.toUInt32 31)).toInt32 &&& 1431655765)
def bc2 (x : Int32) : Int32 := (x &&& 858993459) + ((x.toUInt32 >>> ((2 : Int32).toUInt32 &&& Int32.toUInt32 31)).toInt32 &&& 858993459)
def bc3 (x : Int32) : Int32 := (x + (x.toUInt32 >>> ((4 : Int32).toUInt32 &&& Int32.toUInt32 31)).toInt32) &&& 252645135
def bc4 (x : Int32) : Int32 := x + (x.toUInt32 >>> ((8 : Int32).toUInt32 &&& Int32.toUInt32 31)).toInt32
def bc5 (x : Int32) : Int32 := x + (x.toUInt32 >>> ((16 : Int32).toUInt32 &&& Int32.toUInt32 31)).toInt32
def bcS (x : Int32) : Int32 := bc5 (bc4 (bc3 (bc2 (bc1 x)))) &&& 63
theorem c_bitCount (x : Int32) (h : AH) : Con mJ14_bitCount 0 0 0 [.int x] h (retV (.int (bcS x)) h) nox := by
  refine Con.of rfl rfl (Nat.le_of_ble_eq_true rfl) ?_
  refine s_iload_n 0 dJ14_bitCount_0 rfl rfl ?_
  refine s_iload_n 0 dJ14_bitCount_1 rfl rfl ?_
  refine s_iconst (v := 1) dJ14_bitCount_2 rfl ?_
  refine s_iushr dJ14_bitCount_3 rfl ?_
  refine s_ldcw dJ14_bitCount_4 q1067 ?_
  refine s_iand dJ14_bitCount_7 ?_
  refine s_isub dJ14_bitCount_8 ?_
  refine s_istore_n (ls' := [(0, _)]) 0 dJ14_bitCount_9 rfl (by decide) rfl ?_
  refine s_iload_n 0 dJ14_bitCount_10 rfl rfl ?_
  refine s_ldcw dJ14_bitCount_11 q1068 ?_
  refine s_iand dJ14_bitCount_14 ?_
  refine s_iload_n 0 dJ14_bitCount_15 rfl rfl ?_
  refine s_iconst (v := 2) dJ14_bitCount_16 rfl ?_
  refine s_iushr dJ14_bitCount_17 rfl ?_
  refine s_ldcw dJ14_bitCount_18 q1068 ?_
  refine s_iand dJ14_bitCount_21 ?_
  refine s_iadd dJ14_bitCount_22 ?_
  refine s_istore_n (ls' := [(0, _)]) 0 dJ14_bitCount_23 rfl (by decide) rfl ?_
  refine s_iload_n 0 dJ14_bitCount_24 rfl rfl ?_
  refine s_iload_n 0 dJ14_bitCount_25 rfl rfl ?_
  refine s_iconst (v := 4) dJ14_bitCount_26 rfl ?_
  refine s_iushr dJ14_bitCount_27 rfl ?_
  refine s_iadd dJ14_bitCount_28 ?_
  refine s_ldcw dJ14_bitCount_29 q1069 ?_
  refine s_iand dJ14_bitCount_32 ?_
  refine s_istore_n (ls' := [(0, _)]) 0 dJ14_bitCount_33 rfl (by decide) rfl ?_
  refine s_iload_n 0 dJ14_bitCount_34 rfl rfl ?_
  refine s_iload_n 0 dJ14_bitCount_35 rfl rfl ?_
  refine s_bipush (v := 8) dJ14_bitCount_36 rfl ?_
  refine s_iushr dJ14_bitCount_38 rfl ?_
  refine s_iadd dJ14_bitCount_39 ?_
  refine s_istore_n (ls' := [(0, _)]) 0 dJ14_bitCount_40 rfl (by decide) rfl ?_
  refine s_iload_n 0 dJ14_bitCount_41 rfl rfl ?_
  refine s_iload_n 0 dJ14_bitCount_42 rfl rfl ?_
  refine s_bipush (v := 16) dJ14_bitCount_43 rfl ?_
  refine s_iushr dJ14_bitCount_45 rfl ?_
  refine s_iadd dJ14_bitCount_46 ?_
  refine s_istore_n (ls' := [(0, _)]) 0 dJ14_bitCount_47 rfl (by decide) rfl ?_
  refine s_iload_n 0 dJ14_bitCount_48 rfl rfl ?_
  refine s_bipush (v := 63) dJ14_bitCount_49 rfl ?_
  refine s_iand dJ14_bitCount_51 ?_
  exact s_ireturn .int dJ14_bitCount_52 rfl rfl ⟨rfl, rfl⟩
