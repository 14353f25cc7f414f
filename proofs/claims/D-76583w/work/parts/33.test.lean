/-! test -/
set_option maxRecDepth 100000
theorem tst_1 : (vx_atM "java/lang/NegativeArraySizeException" ["java/lang/RuntimeException", "java/lang/Exception"]).all (fun w => decide (w ∈ lw_all) || decide (w ∈ lw_tbl)) = true := by decide +kernel
theorem tst_2 : (vx_atM "java/lang/ClassCastException" ["java/lang/RuntimeException", "java/lang/Exception"]).all (fun w => decide (w ∈ lw_all) || decide (w ∈ lw_tbl)) = true := by decide +kernel
theorem tst_3 : (vx_atM "java/lang/ArrayStoreException" ["java/lang/RuntimeException", "java/lang/Exception"]).all (fun w => decide (w ∈ lw_all) || decide (w ∈ lw_tbl)) = true := by decide +kernel
theorem tst_4 : (vx_atM "java/lang/ArrayIndexOutOfBoundsException" ["java/lang/IndexOutOfBoundsException", "java/lang/RuntimeException", "java/lang/Exception"]).all (fun w => decide (w ∈ lw_all) || decide (w ∈ lw_tbl)) = true := by decide +kernel
theorem tst_5 : (vx_atN 8).all (fun w => decide (w ∈ lw_all) || decide (w ∈ lw_tbl)) = true := by decide +kernel
theorem tst_6 : (vx_atM "java/lang/NegativeArraySizeException" ["java/lang/RuntimeException", "java/lang/Exception"]).all vx_ot = true := by decide +kernel
theorem tst_7 : (vx_atN 8).all vx_ot = true := by decide +kernel
