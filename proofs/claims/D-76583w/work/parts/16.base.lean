/-! AM: the fixed part of the heap (what the two constructors lay), ends and calls that change nothing -/
set_option maxRecDepth 100000
/-- the fixed things: address, kind, length -/
def wfK : List (Nat × Nat × Nat) := [(2, 108, 0), (3, 23, 0), (4, 23, 0), (5, 23, 0), (6, 101, 5), (7, 101, 5), (8, 101, 5), (16, 1, 0), (17, 106, 6), (18, 100, 24), (19, 2, 0), (20, 101, 6), (21, 101, 6), (22, 100, 6), (23, 2, 0), (24, 101, 6), (25, 101, 6), (26, 100, 6), (27, 101, 100), (30, 4, 0), (31, 5, 0), (32, 100, 20), (33, 100, 5), (34, 100, 5), (35, 100, 8), (36, 100, 8), (37, 100, 8), (38, 100, 8), (39, 107, 6), (40, 100, 60), (41, 2, 0), (42, 101, 6), (43, 101, 6), (44, 100, 6), (45, 106, 6), (46, 100, 24), (47, 100, 5), (48, 100, 5), (49, 100, 8), (50, 100, 8), (51, 100, 8), (52, 100, 8), (53, 6, 0), (54, 6, 0), (55, 6, 0), (56, 6, 0), (57, 6, 0), (58, 6, 0), (59, 7, 0), (60, 100, 109), (61, 100, 218), (62, 100, 109), (63, 100, 100), (64, 100, 600), (65, 100, 6), (66, 100, 100), (67, 100, 6), (68, 105, 6), (69, 105, 3), (70, 105, 15), (71, 100, 6), (72, 100, 6), (73, 100, 6), (74, 100, 7), (75, 100, 21), (76, 100, 20), (77, 100, 6), (78, 100, 6), (79, 103, 360), (80, 103, 60)]
/-- their references that never change -/
def wfP : List (Nat × Nat × Nat) := [(3, 0, 6), (4, 0, 7), (5, 0, 8), (16, 0, 17), (16, 1, 18), (16, 2, 19), (16, 3, 23), (16, 4, 27), (16, 8, 30), (16, 9, 31), (16, 10, 33), (16, 11, 34), (16, 12, 35), (16, 13, 36), (16, 14, 37), (16, 15, 38), (16, 19, 39), (16, 20, 40), (16, 21, 41), (16, 22, 45), (16, 23, 46), (16, 24, 47), (16, 25, 48), (16, 26, 49), (16, 27, 50), (16, 28, 51), (16, 29, 52), (19, 0, 20), (19, 1, 21), (19, 2, 22), (23, 0, 24), (23, 1, 25), (23, 2, 26), (31, 0, 32), (41, 0, 42), (41, 1, 43), (41, 2, 44), (59, 0, 60), (59, 1, 61), (59, 2, 62), (59, 4, 63), (59, 6, 64), (59, 7, 65), (59, 9, 66), (59, 16, 67), (59, 17, 68), (59, 18, 69), (59, 19, 70), (59, 20, 71), (59, 21, 72), (59, 22, 73), (59, 23, 74), (59, 24, 75), (59, 25, 76), (59, 27, 77), (59, 28, 78), (59, 29, 79), (59, 30, 80)]
def WF (h : AH) : Prop := (∀ q ∈ wfK, hK h q.1 = q.2.1 ∧ hN h q.1 = q.2.2) ∧ (∀ q ∈ wfP, hP h q.1 q.2.1 = q.2.2) ∧ 81 ≤ hX h ∧ ∀ b, hX h ≤ b → hK h b = 0
theorem wk_2 {h : AH} (w : WF h) : hK h 2 = 108 := (w.1 (2, 108, 0) (by decide)).1
theorem wn_2 {h : AH} (w : WF h) : hN h 2 = 0 := (w.1 (2, 108, 0) (by decide)).2
theorem wk_3 {h : AH} (w : WF h) : hK h 3 = 23 := (w.1 (3, 23, 0) (by decide)).1
theorem wk_4 {h : AH} (w : WF h) : hK h 4 = 23 := (w.1 (4, 23, 0) (by decide)).1
theorem wk_5 {h : AH} (w : WF h) : hK h 5 = 23 := (w.1 (5, 23, 0) (by decide)).1
theorem wk_6 {h : AH} (w : WF h) : hK h 6 = 101 := (w.1 (6, 101, 5) (by decide)).1
theorem wn_6 {h : AH} (w : WF h) : hN h 6 = 5 := (w.1 (6, 101, 5) (by decide)).2
theorem wk_7 {h : AH} (w : WF h) : hK h 7 = 101 := (w.1 (7, 101, 5) (by decide)).1
theorem wn_7 {h : AH} (w : WF h) : hN h 7 = 5 := (w.1 (7, 101, 5) (by decide)).2
theorem wk_8 {h : AH} (w : WF h) : hK h 8 = 101 := (w.1 (8, 101, 5) (by decide)).1
theorem wn_8 {h : AH} (w : WF h) : hN h 8 = 5 := (w.1 (8, 101, 5) (by decide)).2
theorem wk_16 {h : AH} (w : WF h) : hK h 16 = 1 := (w.1 (16, 1, 0) (by decide)).1
theorem wk_17 {h : AH} (w : WF h) : hK h 17 = 106 := (w.1 (17, 106, 6) (by decide)).1
theorem wn_17 {h : AH} (w : WF h) : hN h 17 = 6 := (w.1 (17, 106, 6) (by decide)).2
theorem wk_18 {h : AH} (w : WF h) : hK h 18 = 100 := (w.1 (18, 100, 24) (by decide)).1
theorem wn_18 {h : AH} (w : WF h) : hN h 18 = 24 := (w.1 (18, 100, 24) (by decide)).2
theorem wk_19 {h : AH} (w : WF h) : hK h 19 = 2 := (w.1 (19, 2, 0) (by decide)).1
theorem wk_20 {h : AH} (w : WF h) : hK h 20 = 101 := (w.1 (20, 101, 6) (by decide)).1
theorem wn_20 {h : AH} (w : WF h) : hN h 20 = 6 := (w.1 (20, 101, 6) (by decide)).2
theorem wk_21 {h : AH} (w : WF h) : hK h 21 = 101 := (w.1 (21, 101, 6) (by decide)).1
theorem wn_21 {h : AH} (w : WF h) : hN h 21 = 6 := (w.1 (21, 101, 6) (by decide)).2
theorem wk_22 {h : AH} (w : WF h) : hK h 22 = 100 := (w.1 (22, 100, 6) (by decide)).1
theorem wn_22 {h : AH} (w : WF h) : hN h 22 = 6 := (w.1 (22, 100, 6) (by decide)).2
theorem wk_23 {h : AH} (w : WF h) : hK h 23 = 2 := (w.1 (23, 2, 0) (by decide)).1
theorem wk_24 {h : AH} (w : WF h) : hK h 24 = 101 := (w.1 (24, 101, 6) (by decide)).1
theorem wn_24 {h : AH} (w : WF h) : hN h 24 = 6 := (w.1 (24, 101, 6) (by decide)).2
theorem wk_25 {h : AH} (w : WF h) : hK h 25 = 101 := (w.1 (25, 101, 6) (by decide)).1
theorem wn_25 {h : AH} (w : WF h) : hN h 25 = 6 := (w.1 (25, 101, 6) (by decide)).2
theorem wk_26 {h : AH} (w : WF h) : hK h 26 = 100 := (w.1 (26, 100, 6) (by decide)).1
theorem wn_26 {h : AH} (w : WF h) : hN h 26 = 6 := (w.1 (26, 100, 6) (by decide)).2
theorem wk_27 {h : AH} (w : WF h) : hK h 27 = 101 := (w.1 (27, 101, 100) (by decide)).1
theorem wn_27 {h : AH} (w : WF h) : hN h 27 = 100 := (w.1 (27, 101, 100) (by decide)).2
theorem wk_30 {h : AH} (w : WF h) : hK h 30 = 4 := (w.1 (30, 4, 0) (by decide)).1
theorem wk_31 {h : AH} (w : WF h) : hK h 31 = 5 := (w.1 (31, 5, 0) (by decide)).1
theorem wk_32 {h : AH} (w : WF h) : hK h 32 = 100 := (w.1 (32, 100, 20) (by decide)).1
theorem wn_32 {h : AH} (w : WF h) : hN h 32 = 20 := (w.1 (32, 100, 20) (by decide)).2
theorem wk_33 {h : AH} (w : WF h) : hK h 33 = 100 := (w.1 (33, 100, 5) (by decide)).1
theorem wn_33 {h : AH} (w : WF h) : hN h 33 = 5 := (w.1 (33, 100, 5) (by decide)).2
theorem wk_34 {h : AH} (w : WF h) : hK h 34 = 100 := (w.1 (34, 100, 5) (by decide)).1
theorem wn_34 {h : AH} (w : WF h) : hN h 34 = 5 := (w.1 (34, 100, 5) (by decide)).2
theorem wk_35 {h : AH} (w : WF h) : hK h 35 = 100 := (w.1 (35, 100, 8) (by decide)).1
theorem wn_35 {h : AH} (w : WF h) : hN h 35 = 8 := (w.1 (35, 100, 8) (by decide)).2
theorem wk_36 {h : AH} (w : WF h) : hK h 36 = 100 := (w.1 (36, 100, 8) (by decide)).1
theorem wn_36 {h : AH} (w : WF h) : hN h 36 = 8 := (w.1 (36, 100, 8) (by decide)).2
theorem wk_37 {h : AH} (w : WF h) : hK h 37 = 100 := (w.1 (37, 100, 8) (by decide)).1
theorem wn_37 {h : AH} (w : WF h) : hN h 37 = 8 := (w.1 (37, 100, 8) (by decide)).2
theorem wk_38 {h : AH} (w : WF h) : hK h 38 = 100 := (w.1 (38, 100, 8) (by decide)).1
theorem wn_38 {h : AH} (w : WF h) : hN h 38 = 8 := (w.1 (38, 100, 8) (by decide)).2
theorem wk_39 {h : AH} (w : WF h) : hK h 39 = 107 := (w.1 (39, 107, 6) (by decide)).1
theorem wn_39 {h : AH} (w : WF h) : hN h 39 = 6 := (w.1 (39, 107, 6) (by decide)).2
theorem wk_40 {h : AH} (w : WF h) : hK h 40 = 100 := (w.1 (40, 100, 60) (by decide)).1
theorem wn_40 {h : AH} (w : WF h) : hN h 40 = 60 := (w.1 (40, 100, 60) (by decide)).2
theorem wk_41 {h : AH} (w : WF h) : hK h 41 = 2 := (w.1 (41, 2, 0) (by decide)).1
theorem wk_42 {h : AH} (w : WF h) : hK h 42 = 101 := (w.1 (42, 101, 6) (by decide)).1
theorem wn_42 {h : AH} (w : WF h) : hN h 42 = 6 := (w.1 (42, 101, 6) (by decide)).2
theorem wk_43 {h : AH} (w : WF h) : hK h 43 = 101 := (w.1 (43, 101, 6) (by decide)).1
theorem wn_43 {h : AH} (w : WF h) : hN h 43 = 6 := (w.1 (43, 101, 6) (by decide)).2
theorem wk_44 {h : AH} (w : WF h) : hK h 44 = 100 := (w.1 (44, 100, 6) (by decide)).1
theorem wn_44 {h : AH} (w : WF h) : hN h 44 = 6 := (w.1 (44, 100, 6) (by decide)).2
theorem wk_45 {h : AH} (w : WF h) : hK h 45 = 106 := (w.1 (45, 106, 6) (by decide)).1
theorem wn_45 {h : AH} (w : WF h) : hN h 45 = 6 := (w.1 (45, 106, 6) (by decide)).2
theorem wk_46 {h : AH} (w : WF h) : hK h 46 = 100 := (w.1 (46, 100, 24) (by decide)).1
theorem wn_46 {h : AH} (w : WF h) : hN h 46 = 24 := (w.1 (46, 100, 24) (by decide)).2
theorem wk_47 {h : AH} (w : WF h) : hK h 47 = 100 := (w.1 (47, 100, 5) (by decide)).1
theorem wn_47 {h : AH} (w : WF h) : hN h 47 = 5 := (w.1 (47, 100, 5) (by decide)).2
theorem wk_48 {h : AH} (w : WF h) : hK h 48 = 100 := (w.1 (48, 100, 5) (by decide)).1
theorem wn_48 {h : AH} (w : WF h) : hN h 48 = 5 := (w.1 (48, 100, 5) (by decide)).2
theorem wk_49 {h : AH} (w : WF h) : hK h 49 = 100 := (w.1 (49, 100, 8) (by decide)).1
theorem wn_49 {h : AH} (w : WF h) : hN h 49 = 8 := (w.1 (49, 100, 8) (by decide)).2
theorem wk_50 {h : AH} (w : WF h) : hK h 50 = 100 := (w.1 (50, 100, 8) (by decide)).1
theorem wn_50 {h : AH} (w : WF h) : hN h 50 = 8 := (w.1 (50, 100, 8) (by decide)).2
theorem wk_51 {h : AH} (w : WF h) : hK h 51 = 100 := (w.1 (51, 100, 8) (by decide)).1
theorem wn_51 {h : AH} (w : WF h) : hN h 51 = 8 := (w.1 (51, 100, 8) (by decide)).2
theorem wk_52 {h : AH} (w : WF h) : hK h 52 = 100 := (w.1 (52, 100, 8) (by decide)).1
theorem wn_52 {h : AH} (w : WF h) : hN h 52 = 8 := (w.1 (52, 100, 8) (by decide)).2
theorem wk_53 {h : AH} (w : WF h) : hK h 53 = 6 := (w.1 (53, 6, 0) (by decide)).1
theorem wk_54 {h : AH} (w : WF h) : hK h 54 = 6 := (w.1 (54, 6, 0) (by decide)).1
theorem wk_55 {h : AH} (w : WF h) : hK h 55 = 6 := (w.1 (55, 6, 0) (by decide)).1
theorem wk_56 {h : AH} (w : WF h) : hK h 56 = 6 := (w.1 (56, 6, 0) (by decide)).1
theorem wk_57 {h : AH} (w : WF h) : hK h 57 = 6 := (w.1 (57, 6, 0) (by decide)).1
theorem wk_58 {h : AH} (w : WF h) : hK h 58 = 6 := (w.1 (58, 6, 0) (by decide)).1
theorem wk_59 {h : AH} (w : WF h) : hK h 59 = 7 := (w.1 (59, 7, 0) (by decide)).1
theorem wk_60 {h : AH} (w : WF h) : hK h 60 = 100 := (w.1 (60, 100, 109) (by decide)).1
theorem wn_60 {h : AH} (w : WF h) : hN h 60 = 109 := (w.1 (60, 100, 109) (by decide)).2
theorem wk_61 {h : AH} (w : WF h) : hK h 61 = 100 := (w.1 (61, 100, 218) (by decide)).1
theorem wn_61 {h : AH} (w : WF h) : hN h 61 = 218 := (w.1 (61, 100, 218) (by decide)).2
theorem wk_62 {h : AH} (w : WF h) : hK h 62 = 100 := (w.1 (62, 100, 109) (by decide)).1
theorem wn_62 {h : AH} (w : WF h) : hN h 62 = 109 := (w.1 (62, 100, 109) (by decide)).2
theorem wk_63 {h : AH} (w : WF h) : hK h 63 = 100 := (w.1 (63, 100, 100) (by decide)).1
theorem wn_63 {h : AH} (w : WF h) : hN h 63 = 100 := (w.1 (63, 100, 100) (by decide)).2
theorem wk_64 {h : AH} (w : WF h) : hK h 64 = 100 := (w.1 (64, 100, 600) (by decide)).1
theorem wn_64 {h : AH} (w : WF h) : hN h 64 = 600 := (w.1 (64, 100, 600) (by decide)).2
theorem wk_65 {h : AH} (w : WF h) : hK h 65 = 100 := (w.1 (65, 100, 6) (by decide)).1
theorem wn_65 {h : AH} (w : WF h) : hN h 65 = 6 := (w.1 (65, 100, 6) (by decide)).2
theorem wk_66 {h : AH} (w : WF h) : hK h 66 = 100 := (w.1 (66, 100, 100) (by decide)).1
theorem wn_66 {h : AH} (w : WF h) : hN h 66 = 100 := (w.1 (66, 100, 100) (by decide)).2
theorem wk_67 {h : AH} (w : WF h) : hK h 67 = 100 := (w.1 (67, 100, 6) (by decide)).1
theorem wn_67 {h : AH} (w : WF h) : hN h 67 = 6 := (w.1 (67, 100, 6) (by decide)).2
theorem wk_68 {h : AH} (w : WF h) : hK h 68 = 105 := (w.1 (68, 105, 6) (by decide)).1
theorem wn_68 {h : AH} (w : WF h) : hN h 68 = 6 := (w.1 (68, 105, 6) (by decide)).2
theorem wk_69 {h : AH} (w : WF h) : hK h 69 = 105 := (w.1 (69, 105, 3) (by decide)).1
theorem wn_69 {h : AH} (w : WF h) : hN h 69 = 3 := (w.1 (69, 105, 3) (by decide)).2
theorem wk_70 {h : AH} (w : WF h) : hK h 70 = 105 := (w.1 (70, 105, 15) (by decide)).1
theorem wn_70 {h : AH} (w : WF h) : hN h 70 = 15 := (w.1 (70, 105, 15) (by decide)).2
theorem wk_71 {h : AH} (w : WF h) : hK h 71 = 100 := (w.1 (71, 100, 6) (by decide)).1
theorem wn_71 {h : AH} (w : WF h) : hN h 71 = 6 := (w.1 (71, 100, 6) (by decide)).2
theorem wk_72 {h : AH} (w : WF h) : hK h 72 = 100 := (w.1 (72, 100, 6) (by decide)).1
theorem wn_72 {h : AH} (w : WF h) : hN h 72 = 6 := (w.1 (72, 100, 6) (by decide)).2
theorem wk_73 {h : AH} (w : WF h) : hK h 73 = 100 := (w.1 (73, 100, 6) (by decide)).1
theorem wn_73 {h : AH} (w : WF h) : hN h 73 = 6 := (w.1 (73, 100, 6) (by decide)).2
theorem wk_74 {h : AH} (w : WF h) : hK h 74 = 100 := (w.1 (74, 100, 7) (by decide)).1
theorem wn_74 {h : AH} (w : WF h) : hN h 74 = 7 := (w.1 (74, 100, 7) (by decide)).2
theorem wk_75 {h : AH} (w : WF h) : hK h 75 = 100 := (w.1 (75, 100, 21) (by decide)).1
theorem wn_75 {h : AH} (w : WF h) : hN h 75 = 21 := (w.1 (75, 100, 21) (by decide)).2
theorem wk_76 {h : AH} (w : WF h) : hK h 76 = 100 := (w.1 (76, 100, 20) (by decide)).1
theorem wn_76 {h : AH} (w : WF h) : hN h 76 = 20 := (w.1 (76, 100, 20) (by decide)).2
theorem wk_77 {h : AH} (w : WF h) : hK h 77 = 100 := (w.1 (77, 100, 6) (by decide)).1
theorem wn_77 {h : AH} (w : WF h) : hN h 77 = 6 := (w.1 (77, 100, 6) (by decide)).2
theorem wk_78 {h : AH} (w : WF h) : hK h 78 = 100 := (w.1 (78, 100, 6) (by decide)).1
theorem wn_78 {h : AH} (w : WF h) : hN h 78 = 6 := (w.1 (78, 100, 6) (by decide)).2
theorem wk_79 {h : AH} (w : WF h) : hK h 79 = 103 := (w.1 (79, 103, 360) (by decide)).1
theorem wn_79 {h : AH} (w : WF h) : hN h 79 = 360 := (w.1 (79, 103, 360) (by decide)).2
theorem wk_80 {h : AH} (w : WF h) : hK h 80 = 103 := (w.1 (80, 103, 60) (by decide)).1
theorem wn_80 {h : AH} (w : WF h) : hN h 80 = 60 := (w.1 (80, 103, 60) (by decide)).2
theorem wp_3_0 {h : AH} (w : WF h) : hP h 3 0 = 6 := w.2.1 (3, 0, 6) (by decide)
theorem wp_4_0 {h : AH} (w : WF h) : hP h 4 0 = 7 := w.2.1 (4, 0, 7) (by decide)
theorem wp_5_0 {h : AH} (w : WF h) : hP h 5 0 = 8 := w.2.1 (5, 0, 8) (by decide)
theorem wp_16_0 {h : AH} (w : WF h) : hP h 16 0 = 17 := w.2.1 (16, 0, 17) (by decide)
theorem wp_16_1 {h : AH} (w : WF h) : hP h 16 1 = 18 := w.2.1 (16, 1, 18) (by decide)
theorem wp_16_2 {h : AH} (w : WF h) : hP h 16 2 = 19 := w.2.1 (16, 2, 19) (by decide)
theorem wp_16_3 {h : AH} (w : WF h) : hP h 16 3 = 23 := w.2.1 (16, 3, 23) (by decide)
theorem wp_16_4 {h : AH} (w : WF h) : hP h 16 4 = 27 := w.2.1 (16, 4, 27) (by decide)
theorem wp_16_8 {h : AH} (w : WF h) : hP h 16 8 = 30 := w.2.1 (16, 8, 30) (by decide)
theorem wp_16_9 {h : AH} (w : WF h) : hP h 16 9 = 31 := w.2.1 (16, 9, 31) (by decide)
theorem wp_16_10 {h : AH} (w : WF h) : hP h 16 10 = 33 := w.2.1 (16, 10, 33) (by decide)
theorem wp_16_11 {h : AH} (w : WF h) : hP h 16 11 = 34 := w.2.1 (16, 11, 34) (by decide)
theorem wp_16_12 {h : AH} (w : WF h) : hP h 16 12 = 35 := w.2.1 (16, 12, 35) (by decide)
theorem wp_16_13 {h : AH} (w : WF h) : hP h 16 13 = 36 := w.2.1 (16, 13, 36) (by decide)
theorem wp_16_14 {h : AH} (w : WF h) : hP h 16 14 = 37 := w.2.1 (16, 14, 37) (by decide)
theorem wp_16_15 {h : AH} (w : WF h) : hP h 16 15 = 38 := w.2.1 (16, 15, 38) (by decide)
theorem wp_16_19 {h : AH} (w : WF h) : hP h 16 19 = 39 := w.2.1 (16, 19, 39) (by decide)
theorem wp_16_20 {h : AH} (w : WF h) : hP h 16 20 = 40 := w.2.1 (16, 20, 40) (by decide)
theorem wp_16_21 {h : AH} (w : WF h) : hP h 16 21 = 41 := w.2.1 (16, 21, 41) (by decide)
theorem wp_16_22 {h : AH} (w : WF h) : hP h 16 22 = 45 := w.2.1 (16, 22, 45) (by decide)
theorem wp_16_23 {h : AH} (w : WF h) : hP h 16 23 = 46 := w.2.1 (16, 23, 46) (by decide)
theorem wp_16_24 {h : AH} (w : WF h) : hP h 16 24 = 47 := w.2.1 (16, 24, 47) (by decide)
theorem wp_16_25 {h : AH} (w : WF h) : hP h 16 25 = 48 := w.2.1 (16, 25, 48) (by decide)
theorem wp_16_26 {h : AH} (w : WF h) : hP h 16 26 = 49 := w.2.1 (16, 26, 49) (by decide)
theorem wp_16_27 {h : AH} (w : WF h) : hP h 16 27 = 50 := w.2.1 (16, 27, 50) (by decide)
theorem wp_16_28 {h : AH} (w : WF h) : hP h 16 28 = 51 := w.2.1 (16, 28, 51) (by decide)
theorem wp_16_29 {h : AH} (w : WF h) : hP h 16 29 = 52 := w.2.1 (16, 29, 52) (by decide)
theorem wp_19_0 {h : AH} (w : WF h) : hP h 19 0 = 20 := w.2.1 (19, 0, 20) (by decide)
theorem wp_19_1 {h : AH} (w : WF h) : hP h 19 1 = 21 := w.2.1 (19, 1, 21) (by decide)
theorem wp_19_2 {h : AH} (w : WF h) : hP h 19 2 = 22 := w.2.1 (19, 2, 22) (by decide)
theorem wp_23_0 {h : AH} (w : WF h) : hP h 23 0 = 24 := w.2.1 (23, 0, 24) (by decide)
theorem wp_23_1 {h : AH} (w : WF h) : hP h 23 1 = 25 := w.2.1 (23, 1, 25) (by decide)
theorem wp_23_2 {h : AH} (w : WF h) : hP h 23 2 = 26 := w.2.1 (23, 2, 26) (by decide)
theorem wp_31_0 {h : AH} (w : WF h) : hP h 31 0 = 32 := w.2.1 (31, 0, 32) (by decide)
theorem wp_41_0 {h : AH} (w : WF h) : hP h 41 0 = 42 := w.2.1 (41, 0, 42) (by decide)
theorem wp_41_1 {h : AH} (w : WF h) : hP h 41 1 = 43 := w.2.1 (41, 1, 43) (by decide)
theorem wp_41_2 {h : AH} (w : WF h) : hP h 41 2 = 44 := w.2.1 (41, 2, 44) (by decide)
theorem wp_59_0 {h : AH} (w : WF h) : hP h 59 0 = 60 := w.2.1 (59, 0, 60) (by decide)
theorem wp_59_1 {h : AH} (w : WF h) : hP h 59 1 = 61 := w.2.1 (59, 1, 61) (by decide)
theorem wp_59_2 {h : AH} (w : WF h) : hP h 59 2 = 62 := w.2.1 (59, 2, 62) (by decide)
theorem wp_59_4 {h : AH} (w : WF h) : hP h 59 4 = 63 := w.2.1 (59, 4, 63) (by decide)
theorem wp_59_6 {h : AH} (w : WF h) : hP h 59 6 = 64 := w.2.1 (59, 6, 64) (by decide)
theorem wp_59_7 {h : AH} (w : WF h) : hP h 59 7 = 65 := w.2.1 (59, 7, 65) (by decide)
theorem wp_59_9 {h : AH} (w : WF h) : hP h 59 9 = 66 := w.2.1 (59, 9, 66) (by decide)
theorem wp_59_16 {h : AH} (w : WF h) : hP h 59 16 = 67 := w.2.1 (59, 16, 67) (by decide)
theorem wp_59_17 {h : AH} (w : WF h) : hP h 59 17 = 68 := w.2.1 (59, 17, 68) (by decide)
theorem wp_59_18 {h : AH} (w : WF h) : hP h 59 18 = 69 := w.2.1 (59, 18, 69) (by decide)
theorem wp_59_19 {h : AH} (w : WF h) : hP h 59 19 = 70 := w.2.1 (59, 19, 70) (by decide)
theorem wp_59_20 {h : AH} (w : WF h) : hP h 59 20 = 71 := w.2.1 (59, 20, 71) (by decide)
theorem wp_59_21 {h : AH} (w : WF h) : hP h 59 21 = 72 := w.2.1 (59, 21, 72) (by decide)
theorem wp_59_22 {h : AH} (w : WF h) : hP h 59 22 = 73 := w.2.1 (59, 22, 73) (by decide)
theorem wp_59_23 {h : AH} (w : WF h) : hP h 59 23 = 74 := w.2.1 (59, 23, 74) (by decide)
theorem wp_59_24 {h : AH} (w : WF h) : hP h 59 24 = 75 := w.2.1 (59, 24, 75) (by decide)
theorem wp_59_25 {h : AH} (w : WF h) : hP h 59 25 = 76 := w.2.1 (59, 25, 76) (by decide)
theorem wp_59_27 {h : AH} (w : WF h) : hP h 59 27 = 77 := w.2.1 (59, 27, 77) (by decide)
theorem wp_59_28 {h : AH} (w : WF h) : hP h 59 28 = 78 := w.2.1 (59, 28, 78) (by decide)
theorem wp_59_29 {h : AH} (w : WF h) : hP h 59 29 = 79 := w.2.1 (59, 29, 79) (by decide)
theorem wp_59_30 {h : AH} (w : WF h) : hP h 59 30 = 80 := w.2.1 (59, 30, 80) (by decide)
theorem WF.lt {h : AH} (w : WF h) {b : Nat} (hb : hK h b ≠ 0) : b < hX h := Nat.lt_of_not_le fun z => hb (w.2.2.2 b z)
theorem WF.x {h : AH} (w : WF h) : 81 ≤ hX h := w.2.2.1
theorem hK_nwn {h : AH} {k n b : Nat} (hb : b ≠ hX h) : hK (nw h k n) b = hK h b := by simp [hK, nw, hb]
theorem hN_nwn {h : AH} {k n b : Nat} (hb : b ≠ hX h) : hN (nw h k n) b = hN h b := by simp [hN, nw, hb]
theorem hI_nwn {h : AH} {k n b f : Nat} (hb : b ≠ hX h) : hI (nw h k n) b f = hI h b f := by simp [hI, nw, hb]
theorem hJ_nwn {h : AH} {k n b f : Nat} (hb : b ≠ hX h) : hJ (nw h k n) b f = hJ h b f := by simp [hJ, nw, hb]
theorem hP_nwn {h : AH} {k n b f : Nat} (hb : b ≠ hX h) : hP (nw h k n) b f = hP h b f := by simp [hP, nw, hb]
theorem hN_nw {h : AH} {k n : Nat} : hN (nw h k n) (hX h) = n := by simp [hN, nw]
theorem hI_nw {h : AH} {k n f : Nat} : hI (nw h k n) (hX h) f = 0 := by simp [hI, nw]
theorem hJ_nw {h : AH} {k n f : Nat} : hJ (nw h k n) (hX h) f = 0 := by simp [hJ, nw]
theorem hP_nw {h : AH} {k n f : Nat} : hP (nw h k n) (hX h) f = 0 := by simp [hP, nw]
theorem hX_nw {h : AH} {k n : Nat} : hX (nw h k n) = hX h + 1 := rfl
theorem wfK_lt : ∀ q ∈ wfK, q.1 < 81 := by decide +kernel
theorem wfP_lt : ∀ q ∈ wfP, q.1 < 60 := by decide +kernel
theorem WF.pNw {h : AH} (w : WF h) (k n : Nat) : WF (nw h k n) := by
  have hx := w.2.2.1
  refine ⟨fun q hq => ?_, fun q hq => ?_, ?_, fun b hb => ?_⟩
  · have := wfK_lt q hq
    rw [hK_nwn (by omega), hN_nwn (by omega)]
    exact w.1 q hq
  · have := wfP_lt q hq
    rw [hP_nwn (by omega)]
    exact w.2.1 q hq
  · rw [hX_nw]; omega
  · rw [hX_nw] at hb
    rw [hK_nwn (by omega)]
    exact w.2.2.2 b (by omega)
theorem WF.pP {h : AH} (w : WF h) {a f v : Nat} (ha : ∀ q ∈ wfP, ¬ (q.1 = a ∧ q.2.1 = f)) : WF (sP h a f v) := by
  refine ⟨w.1, fun q hq => ?_, w.2.2⟩
  rw [hP_sP_ne (ha q hq)]
  exact w.2.1 q hq
theorem WF.pP60 {h : AH} (w : WF h) {a f v : Nat} (ha : 60 ≤ a) : WF (sP h a f v) := w.pP (fun q hq z => by have := wfP_lt q hq; omega)
theorem WF.pC {h : AH} (w : WF h) {a sp b dp n : Nat} (ha : ∀ q ∈ wfP, q.1 ≠ b) : WF (cpP h a sp b dp n) := by
  refine ⟨w.1, fun q hq => ?_, w.2.2⟩
  rw [hP_cpP, if_neg (fun z => ha q hq z.1)]
  exact w.2.1 q hq
theorem WF.pC60 {h : AH} (w : WF h) {a sp b dp n : Nat} (ha : 60 ≤ b) : WF (cpP h a sp b dp n) := w.pC (fun q hq z => by have := wfP_lt q hq; omega)
def retH (v : Option Value) (h : AH) : Option Value → AH → Prop := fun v' h' => v' = v ∧ h' = h
theorem fn_at {x k f : Nat} (e : x = k) (z : FN k f = false) : FN x f = false := e ▸ z
theorem ty_at {x k f : Nat} (e : x = k) (z : aty k f = .int) : aty x f = .int := e ▸ z
theorem rk {x k : Nat} {C : String} (e : x = k) (z1 : okK k = true) (z2 : kname k = C) : okK x = true ∧ kname x = C := by subst e; exact ⟨z1, z2⟩
def b2i (b : Bool) : Int32 := if b = true then 1 else 0
theorem nb2i (b : Bool) : narrow .boolean (.int (b2i b)) = .int (b2i b) := by cases b <;> rfl
def retV (v : Value) (h : AH) : Option Value → AH → Prop := fun v' h' => v' = some v ∧ h' = h
def retN (h : AH) : Option Value → AH → Prop := fun v' h' => v' = none ∧ h' = h
def nox : Nat → AH → Prop := fun _ _ => False
/-- a count from p up to m -/
theorem for_up {m : Nat} {P : Nat → Prop} (step : ∀ p, p ≤ m → (p < m → P (p + 1)) → P p) : ∀ p, p ≤ m → P p := by
  have H : ∀ n p, p + n = m → P p := by
    intro n
    induction n with
    | zero => intro p hp; exact step p (by omega) (fun h => absurd h (by omega))
    | succ n ih => intro p hp; exact step p (by omega) (fun _ => ih (p + 1) (by omega))
  exact fun p hp => H (m - p) p (by omega)
section R16
variable {M M2 : AMt} {d d2 n : Nat} {post post2 : Option Value → AH → Prop} {px px2 : Nat → AH → Prop} {rc rs pc idx : Nat} {ls : List (Nat × Value)} {st stk as : List Value} {h : AH} {v : Value}
theorem s_ifeq_b {B : Bool} {off : Int} (tgt : Nat) (hd : decode (mC M) pc = .ok (.ifCond .eq off, 3)) (ht : (pc : Int) + off = (tgt : Int)) (kt : B = false → AW M d post px rc rs tgt ls st h) (kf : B = true → AW M d post px rc rs (pc + 3) ls st h) : AW M d post px rc rs pc ls (.int (b2i B) :: st) h :=
  s_if_eq tgt hd ht (fun z => kt (by cases B <;> first | rfl | (exact absurd z (by decide)))) (fun z => kf (by cases B <;> first | rfl | (exact absurd rfl z)))
theorem s_ifne_b {B : Bool} {off : Int} (tgt : Nat) (hd : decode (mC M) pc = .ok (.ifCond .ne off, 3)) (ht : (pc : Int) + off = (tgt : Int)) (kt : B = true → AW M d post px rc rs tgt ls st h) (kf : B = false → AW M d post px rc rs (pc + 3) ls st h) : AW M d post px rc rs pc ls (.int (b2i B) :: st) h :=
  s_if_ne tgt hd ht (fun z => kt (by cases B <;> first | rfl | (exact absurd rfl z))) (fun z => kf (by cases B <;> first | rfl | (exact absurd z (by decide))))
theorem s_callS_p (hd : decode (mC M) pc = .ok (.invokestatic idx, 3)) (q1 : Cond.methodLink (mY M).cls idx (mY M2) ∈ lw_all) (hM : CS M2 n) (hH : mH M2 = []) (hC : Con M2 d2 0 0 as h (retV v h) nox) (hn : as.length = n) (hstk : stk = as.reverse ++ st) (hroom : d2 + 1 ≤ d ∧ 0 ≤ rc ∧ 0 ≤ rs) (hst : (st.map fun v => v.category).sum ≤ 12) (k : AW M d post px rc rs (pc + 3) ls (v :: st) h) : AW M d post px rc rs pc ls stk h :=
  s_callS hd q1 hM hH hC hn hstk hroom hst (fun v9 h9 z => by obtain ⟨rfl, rfl⟩ := z; exact k) (fun _ _ z => z.elim)
theorem s_callS_v (hd : decode (mC M) pc = .ok (.invokestatic idx, 3)) (q1 : Cond.methodLink (mY M).cls idx (mY M2) ∈ lw_all) (hM : CS M2 n) (hH : mH M2 = []) (hC : Con M2 d2 0 0 as h (retN h) nox) (hn : as.length = n) (hstk : stk = as.reverse ++ st) (hroom : d2 + 1 ≤ d ∧ 0 ≤ rc ∧ 0 ≤ rs) (hst : (st.map fun v => v.category).sum ≤ 12) (k : AW M d post px rc rs (pc + 3) ls st h) : AW M d post px rc rs pc ls stk h :=
  s_callS hd q1 hM hH hC hn hstk hroom hst (fun v9 h9 z => by obtain ⟨rfl, rfl⟩ := z; exact k) (fun _ _ z => z.elim)
theorem s_callSN_p {host : String} (hd : decode (mC M) pc = .ok (.invokestatic idx, 3)) (q1 : Cond.methodLinkNest (mY M).cls idx (mY M2) host ∈ lw_tbl) (hM : CS M2 n) (hH : mH M2 = []) (hC : Con M2 d2 0 0 as h (retV v h) nox) (hn : as.length = n) (hstk : stk = as.reverse ++ st) (hroom : d2 + 1 ≤ d ∧ 0 ≤ rc ∧ 0 ≤ rs) (hst : (st.map fun v => v.category).sum ≤ 12) (k : AW M d post px rc rs (pc + 3) ls (v :: st) h) : AW M d post px rc rs pc ls stk h :=
  s_callSN hd q1 hM hH hC hn hstk hroom hst (fun v9 h9 z => by obtain ⟨rfl, rfl⟩ := z; exact k) (fun _ _ z => z.elim)
theorem s_callSN_v {host : String} (hd : decode (mC M) pc = .ok (.invokestatic idx, 3)) (q1 : Cond.methodLinkNest (mY M).cls idx (mY M2) host ∈ lw_tbl) (hM : CS M2 n) (hH : mH M2 = []) (hC : Con M2 d2 0 0 as h (retN h) nox) (hn : as.length = n) (hstk : stk = as.reverse ++ st) (hroom : d2 + 1 ≤ d ∧ 0 ≤ rc ∧ 0 ≤ rs) (hst : (st.map fun v => v.category).sum ≤ 12) (k : AW M d post px rc rs (pc + 3) ls st h) : AW M d post px rc rs pc ls stk h :=
  s_callSN hd q1 hM hH hC hn hstk hroom hst (fun v9 h9 z => by obtain ⟨rfl, rfl⟩ := z; exact k) (fun _ _ z => z.elim)
theorem s_callV_p {a : Nat} {C : String} (hd : decode (mC M) pc = .ok (.invokevirtual idx, 3)) (q1 : Cond.methodLink (mY M).cls idx (mY M2) ∈ lw_all) (hB : CB M2 n) (hI : Cond.instanceMethod (mY M2) ∈ lw_all) (hS : Cond.selects C (mY M2) (mY M2) ∈ lw_all) (hH : mH M2 = []) (hC : Con M2 d2 0 0 (.ref a :: as) h (retV v h) nox) (hn : as.length = n) (hstk : stk = as.reverse ++ .ref a :: st) (hr : okK (hK h a) = true ∧ kname (hK h a) = C) (hroom : d2 + 1 ≤ d ∧ 0 ≤ rc ∧ 0 ≤ rs) (hst : (st.map fun v => v.category).sum ≤ 12) (k : AW M d post px rc rs (pc + 3) ls (v :: st) h) : AW M d post px rc rs pc ls stk h :=
  s_callV hd q1 hB hI hS hH hC hn hstk hr hroom hst (fun v9 h9 z => by obtain ⟨rfl, rfl⟩ := z; exact k) (fun _ _ z => z.elim)
theorem s_callV_v {a : Nat} {C : String} (hd : decode (mC M) pc = .ok (.invokevirtual idx, 3)) (q1 : Cond.methodLink (mY M).cls idx (mY M2) ∈ lw_all) (hB : CB M2 n) (hI : Cond.instanceMethod (mY M2) ∈ lw_all) (hS : Cond.selects C (mY M2) (mY M2) ∈ lw_all) (hH : mH M2 = []) (hC : Con M2 d2 0 0 (.ref a :: as) h (retN h) nox) (hn : as.length = n) (hstk : stk = as.reverse ++ .ref a :: st) (hr : okK (hK h a) = true ∧ kname (hK h a) = C) (hroom : d2 + 1 ≤ d ∧ 0 ≤ rc ∧ 0 ≤ rs) (hst : (st.map fun v => v.category).sum ≤ 12) (k : AW M d post px rc rs (pc + 3) ls st h) : AW M d post px rc rs pc ls stk h :=
  s_callV hd q1 hB hI hS hH hC hn hstk hr hroom hst (fun v9 h9 z => by obtain ⟨rfl, rfl⟩ := z; exact k) (fun _ _ z => z.elim)
theorem s_callVX_p {a : Nat} {C : String} (hd : decode (mC M) pc = .ok (.invokevirtual idx, 3)) (q1 : Cond.methodLink (mY M).cls idx (mY M2) ∈ lw_all) (hB : CB M2 n) (hI : Cond.instanceMethod (mY M2) ∈ lw_all) (hS : Cond.selects C (mY M2) (mY M2) ∈ lw_all) (hH : mH M2 ≠ []) (hC : Con M2 d2 0 0 (.ref a :: as) h (retV v h) nox) (hn : as.length = n) (hstk : stk = as.reverse ++ .ref a :: st) (hr : okK (hK h a) = true ∧ kname (hK h a) = C) (hroom : d2 + 1 ≤ d ∧ 0 ≤ rc ∧ 0 ≤ rs) (hst : (st.map fun v => v.category).sum ≤ 12) (k : AW M d post px rc rs (pc + 3) ls (v :: st) h) : AW M d post px rc rs pc ls stk h :=
  s_callVX hd q1 hB hI hS hH hC hn hstk hr hroom hst (fun v9 h9 z => by obtain ⟨rfl, rfl⟩ := z; exact k) (fun _ _ z => z.elim)
theorem s_callVX_v {a : Nat} {C : String} (hd : decode (mC M) pc = .ok (.invokevirtual idx, 3)) (q1 : Cond.methodLink (mY M).cls idx (mY M2) ∈ lw_all) (hB : CB M2 n) (hI : Cond.instanceMethod (mY M2) ∈ lw_all) (hS : Cond.selects C (mY M2) (mY M2) ∈ lw_all) (hH : mH M2 ≠ []) (hC : Con M2 d2 0 0 (.ref a :: as) h (retN h) nox) (hn : as.length = n) (hstk : stk = as.reverse ++ .ref a :: st) (hr : okK (hK h a) = true ∧ kname (hK h a) = C) (hroom : d2 + 1 ≤ d ∧ 0 ≤ rc ∧ 0 ≤ rs) (hst : (st.map fun v => v.category).sum ≤ 12) (k : AW M d post px rc rs (pc + 3) ls st h) : AW M d post px rc rs pc ls stk h :=
  s_callVX hd q1 hB hI hS hH hC hn hstk hr hroom hst (fun v9 h9 z => by obtain ⟨rfl, rfl⟩ := z; exact k) (fun _ _ z => z.elim)
theorem s_callVN_p {a : Nat} {C host : String} (hd : decode (mC M) pc = .ok (.invokevirtual idx, 3)) (q1 : Cond.methodLinkNest (mY M).cls idx (mY M2) host ∈ lw_tbl) (hB : CB M2 n) (hI : Cond.instanceMethod (mY M2) ∈ lw_all) (hS : Cond.selects C (mY M2) (mY M2) ∈ lw_all) (hH : mH M2 = []) (hC : Con M2 d2 0 0 (.ref a :: as) h (retV v h) nox) (hn : as.length = n) (hstk : stk = as.reverse ++ .ref a :: st) (hr : okK (hK h a) = true ∧ kname (hK h a) = C) (hroom : d2 + 1 ≤ d ∧ 0 ≤ rc ∧ 0 ≤ rs) (hst : (st.map fun v => v.category).sum ≤ 12) (k : AW M d post px rc rs (pc + 3) ls (v :: st) h) : AW M d post px rc rs pc ls stk h :=
  s_callVN hd q1 hB hI hS hH hC hn hstk hr hroom hst (fun v9 h9 z => by obtain ⟨rfl, rfl⟩ := z; exact k) (fun _ _ z => z.elim)
theorem s_callVN_v {a : Nat} {C host : String} (hd : decode (mC M) pc = .ok (.invokevirtual idx, 3)) (q1 : Cond.methodLinkNest (mY M).cls idx (mY M2) host ∈ lw_tbl) (hB : CB M2 n) (hI : Cond.instanceMethod (mY M2) ∈ lw_all) (hS : Cond.selects C (mY M2) (mY M2) ∈ lw_all) (hH : mH M2 = []) (hC : Con M2 d2 0 0 (.ref a :: as) h (retN h) nox) (hn : as.length = n) (hstk : stk = as.reverse ++ .ref a :: st) (hr : okK (hK h a) = true ∧ kname (hK h a) = C) (hroom : d2 + 1 ≤ d ∧ 0 ≤ rc ∧ 0 ≤ rs) (hst : (st.map fun v => v.category).sum ≤ 12) (k : AW M d post px rc rs (pc + 3) ls st h) : AW M d post px rc rs pc ls stk h :=
  s_callVN hd q1 hB hI hS hH hC hn hstk hr hroom hst (fun v9 h9 z => by obtain ⟨rfl, rfl⟩ := z; exact k) (fun _ _ z => z.elim)
theorem s_callI_p {a : Nat} (hd : decode (mC M) pc = .ok (.invokespecial idx, 3)) (q1 : Cond.methodLink (mY M).cls idx (mY M2) ∈ lw_all) (hM : CI M2 n) (hH : mH M2 = [] ∧ (mY M2).name = "<init>" ∧ mR M2 = none) (hC : Con M2 d2 0 0 (.ref a :: as) h (retV v h) nox) (hn : as.length = n) (hstk : stk = as.reverse ++ .ref a :: st) (h0 : a ≠ 0) (hroom : d2 + 1 ≤ d ∧ 0 ≤ rc ∧ 0 ≤ rs) (hst : (st.map fun v => v.category).sum ≤ 12) (k : AW M d post px rc rs (pc + 3) ls (v :: st) h) : AW M d post px rc rs pc ls stk h :=
  s_callI hd q1 hM hH hC hn hstk h0 hroom hst (fun v9 h9 z => by obtain ⟨rfl, rfl⟩ := z; exact k) (fun _ _ z => z.elim)
theorem s_callI_v {a : Nat} (hd : decode (mC M) pc = .ok (.invokespecial idx, 3)) (q1 : Cond.methodLink (mY M).cls idx (mY M2) ∈ lw_all) (hM : CI M2 n) (hH : mH M2 = [] ∧ (mY M2).name = "<init>" ∧ mR M2 = none) (hC : Con M2 d2 0 0 (.ref a :: as) h (retN h) nox) (hn : as.length = n) (hstk : stk = as.reverse ++ .ref a :: st) (h0 : a ≠ 0) (hroom : d2 + 1 ≤ d ∧ 0 ≤ rc ∧ 0 ≤ rs) (hst : (st.map fun v => v.category).sum ≤ 12) (k : AW M d post px rc rs (pc + 3) ls st h) : AW M d post px rc rs pc ls stk h :=
  s_callI hd q1 hM hH hC hn hstk h0 hroom hst (fun v9 h9 z => by obtain ⟨rfl, rfl⟩ := z; exact k) (fun _ _ z => z.elim)
theorem s_callSU_p {a : Nat} (hd : decode (mC M) pc = .ok (.invokespecial idx, 3)) (q1 : Cond.methodLink (mY M).cls idx (mY M2) ∈ lw_all) (q2 : Cond.sameMethod (mY M2).cls (mY M2).cls (mY M2).name (mY M2).desc ∈ lw_all) (q3 : Cond.superclass (mY M).cls (mY M2).cls ∈ lw_all) (hM : CI M2 n) (hH : mH M2 = [] ∧ (mY M2).name ≠ "<init>") (hC : Con M2 d2 0 0 (.ref a :: as) h (retV v h) nox) (hn : as.length = n) (hstk : stk = as.reverse ++ .ref a :: st) (hr : okK (hK h a) = true) (hroom : d2 + 1 ≤ d ∧ 0 ≤ rc ∧ 0 ≤ rs) (hst : (st.map fun v => v.category).sum ≤ 12) (k : AW M d post px rc rs (pc + 3) ls (v :: st) h) : AW M d post px rc rs pc ls stk h :=
  s_callSU hd q1 q2 q3 hM hH hC hn hstk hr hroom hst (fun v9 h9 z => by obtain ⟨rfl, rfl⟩ := z; exact k) (fun _ _ z => z.elim)
theorem s_callSU_v {a : Nat} (hd : decode (mC M) pc = .ok (.invokespecial idx, 3)) (q1 : Cond.methodLink (mY M).cls idx (mY M2) ∈ lw_all) (q2 : Cond.sameMethod (mY M2).cls (mY M2).cls (mY M2).name (mY M2).desc ∈ lw_all) (q3 : Cond.superclass (mY M).cls (mY M2).cls ∈ lw_all) (hM : CI M2 n) (hH : mH M2 = [] ∧ (mY M2).name ≠ "<init>") (hC : Con M2 d2 0 0 (.ref a :: as) h (retN h) nox) (hn : as.length = n) (hstk : stk = as.reverse ++ .ref a :: st) (hr : okK (hK h a) = true) (hroom : d2 + 1 ≤ d ∧ 0 ≤ rc ∧ 0 ≤ rs) (hst : (st.map fun v => v.category).sum ≤ 12) (k : AW M d post px rc rs (pc + 3) ls st h) : AW M d post px rc rs pc ls stk h :=
  s_callSU hd q1 q2 q3 hM hH hC hn hstk hr hroom hst (fun v9 h9 z => by obtain ⟨rfl, rfl⟩ := z; exact k) (fun _ _ z => z.elim)
end R16
