/-! STAGE 1b: facts of fields, classes (printed by gen/mkfuncs.py). -/
set_option maxRecDepth 100000
theorem apX11 : hp_ap TX11 10 := by unfold hp_ap; decide +kernel
theorem apX15 : hp_ap TX15 10 := by unfold hp_ap; decide +kernel
theorem ao_RenamedWords_Desk : "RenamedWords$Desk" ∈ hp_aos := by decide
theorem ao_RenamedWords_Word : "RenamedWords$Word" ∈ hp_aos := by decide
theorem ao_java_lang_Object : "java/lang/Object" ∈ hp_aos := by decide
theorem ao_java_util_HashMap_Node : "java/util/HashMap$Node" ∈ hp_aos := by decide
theorem nh_J0 : RJ0 ≠ "java/lang/invoke/MethodHandle" ∧ RJ0 ≠ "java/lang/invoke/VarHandle" := by decide +kernel
theorem nh_J1 : RJ1 ≠ "java/lang/invoke/MethodHandle" ∧ RJ1 ≠ "java/lang/invoke/VarHandle" := by decide +kernel
theorem nh_J10 : RJ10 ≠ "java/lang/invoke/MethodHandle" ∧ RJ10 ≠ "java/lang/invoke/VarHandle" := by decide +kernel
theorem nh_J11 : RJ11 ≠ "java/lang/invoke/MethodHandle" ∧ RJ11 ≠ "java/lang/invoke/VarHandle" := by decide +kernel
theorem nh_J13 : RJ13 ≠ "java/lang/invoke/MethodHandle" ∧ RJ13 ≠ "java/lang/invoke/VarHandle" := by decide +kernel
theorem nh_J14 : RJ14 ≠ "java/lang/invoke/MethodHandle" ∧ RJ14 ≠ "java/lang/invoke/VarHandle" := by decide +kernel
theorem nh_J15 : RJ15 ≠ "java/lang/invoke/MethodHandle" ∧ RJ15 ≠ "java/lang/invoke/VarHandle" := by decide +kernel
theorem nh_J16 : RJ16 ≠ "java/lang/invoke/MethodHandle" ∧ RJ16 ≠ "java/lang/invoke/VarHandle" := by decide +kernel
theorem nh_J17 : RJ17 ≠ "java/lang/invoke/MethodHandle" ∧ RJ17 ≠ "java/lang/invoke/VarHandle" := by decide +kernel
theorem nh_J18 : RJ18 ≠ "java/lang/invoke/MethodHandle" ∧ RJ18 ≠ "java/lang/invoke/VarHandle" := by decide +kernel
theorem nh_J19 : RJ19 ≠ "java/lang/invoke/MethodHandle" ∧ RJ19 ≠ "java/lang/invoke/VarHandle" := by decide +kernel
theorem nh_J2 : RJ2 ≠ "java/lang/invoke/MethodHandle" ∧ RJ2 ≠ "java/lang/invoke/VarHandle" := by decide +kernel
theorem nh_J20 : RJ20 ≠ "java/lang/invoke/MethodHandle" ∧ RJ20 ≠ "java/lang/invoke/VarHandle" := by decide +kernel
theorem nh_J21 : RJ21 ≠ "java/lang/invoke/MethodHandle" ∧ RJ21 ≠ "java/lang/invoke/VarHandle" := by decide +kernel
theorem nh_J22 : RJ22 ≠ "java/lang/invoke/MethodHandle" ∧ RJ22 ≠ "java/lang/invoke/VarHandle" := by decide +kernel
theorem nh_J25 : RJ25 ≠ "java/lang/invoke/MethodHandle" ∧ RJ25 ≠ "java/lang/invoke/VarHandle" := by decide +kernel
theorem nh_J26 : RJ26 ≠ "java/lang/invoke/MethodHandle" ∧ RJ26 ≠ "java/lang/invoke/VarHandle" := by decide +kernel
theorem nh_J29 : RJ29 ≠ "java/lang/invoke/MethodHandle" ∧ RJ29 ≠ "java/lang/invoke/VarHandle" := by decide +kernel
theorem nh_J3 : RJ3 ≠ "java/lang/invoke/MethodHandle" ∧ RJ3 ≠ "java/lang/invoke/VarHandle" := by decide +kernel
theorem nh_J31 : RJ31 ≠ "java/lang/invoke/MethodHandle" ∧ RJ31 ≠ "java/lang/invoke/VarHandle" := by decide +kernel
theorem nh_J36 : RJ36 ≠ "java/lang/invoke/MethodHandle" ∧ RJ36 ≠ "java/lang/invoke/VarHandle" := by decide +kernel
theorem nh_J4 : RJ4 ≠ "java/lang/invoke/MethodHandle" ∧ RJ4 ≠ "java/lang/invoke/VarHandle" := by decide +kernel
theorem nh_J40 : RJ40 ≠ "java/lang/invoke/MethodHandle" ∧ RJ40 ≠ "java/lang/invoke/VarHandle" := by decide +kernel
theorem nh_J41 : RJ41 ≠ "java/lang/invoke/MethodHandle" ∧ RJ41 ≠ "java/lang/invoke/VarHandle" := by decide +kernel
theorem nh_J5 : RJ5 ≠ "java/lang/invoke/MethodHandle" ∧ RJ5 ≠ "java/lang/invoke/VarHandle" := by decide +kernel
theorem nh_J6 : RJ6 ≠ "java/lang/invoke/MethodHandle" ∧ RJ6 ≠ "java/lang/invoke/VarHandle" := by decide +kernel
theorem nh_J9 : RJ9 ≠ "java/lang/invoke/MethodHandle" ∧ RJ9 ≠ "java/lang/invoke/VarHandle" := by decide +kernel
theorem nh_X0 : RX0 ≠ "java/lang/invoke/MethodHandle" ∧ RX0 ≠ "java/lang/invoke/VarHandle" := by decide +kernel
theorem nh_X1 : RX1 ≠ "java/lang/invoke/MethodHandle" ∧ RX1 ≠ "java/lang/invoke/VarHandle" := by decide +kernel
theorem nh_X10 : RX10 ≠ "java/lang/invoke/MethodHandle" ∧ RX10 ≠ "java/lang/invoke/VarHandle" := by decide +kernel
theorem nh_X11 : RX11 ≠ "java/lang/invoke/MethodHandle" ∧ RX11 ≠ "java/lang/invoke/VarHandle" := by decide +kernel
theorem nh_X12 : RX12 ≠ "java/lang/invoke/MethodHandle" ∧ RX12 ≠ "java/lang/invoke/VarHandle" := by decide +kernel
theorem nh_X13 : RX13 ≠ "java/lang/invoke/MethodHandle" ∧ RX13 ≠ "java/lang/invoke/VarHandle" := by decide +kernel
theorem nh_X14 : RX14 ≠ "java/lang/invoke/MethodHandle" ∧ RX14 ≠ "java/lang/invoke/VarHandle" := by decide +kernel
theorem nh_X15 : RX15 ≠ "java/lang/invoke/MethodHandle" ∧ RX15 ≠ "java/lang/invoke/VarHandle" := by decide +kernel
theorem nh_X16 : RX16 ≠ "java/lang/invoke/MethodHandle" ∧ RX16 ≠ "java/lang/invoke/VarHandle" := by decide +kernel
theorem nh_X17 : RX17 ≠ "java/lang/invoke/MethodHandle" ∧ RX17 ≠ "java/lang/invoke/VarHandle" := by decide +kernel
theorem nh_X18 : RX18 ≠ "java/lang/invoke/MethodHandle" ∧ RX18 ≠ "java/lang/invoke/VarHandle" := by decide +kernel
theorem nh_X19 : RX19 ≠ "java/lang/invoke/MethodHandle" ∧ RX19 ≠ "java/lang/invoke/VarHandle" := by decide +kernel
theorem nh_X2 : RX2 ≠ "java/lang/invoke/MethodHandle" ∧ RX2 ≠ "java/lang/invoke/VarHandle" := by decide +kernel
theorem nh_X20 : RX20 ≠ "java/lang/invoke/MethodHandle" ∧ RX20 ≠ "java/lang/invoke/VarHandle" := by decide +kernel
theorem nh_X21 : RX21 ≠ "java/lang/invoke/MethodHandle" ∧ RX21 ≠ "java/lang/invoke/VarHandle" := by decide +kernel
theorem nh_X22 : RX22 ≠ "java/lang/invoke/MethodHandle" ∧ RX22 ≠ "java/lang/invoke/VarHandle" := by decide +kernel
theorem nh_X23 : RX23 ≠ "java/lang/invoke/MethodHandle" ∧ RX23 ≠ "java/lang/invoke/VarHandle" := by decide +kernel
theorem nh_X24 : RX24 ≠ "java/lang/invoke/MethodHandle" ∧ RX24 ≠ "java/lang/invoke/VarHandle" := by decide +kernel
theorem nh_X25 : RX25 ≠ "java/lang/invoke/MethodHandle" ∧ RX25 ≠ "java/lang/invoke/VarHandle" := by decide +kernel
theorem nh_X26 : RX26 ≠ "java/lang/invoke/MethodHandle" ∧ RX26 ≠ "java/lang/invoke/VarHandle" := by decide +kernel
theorem nh_X27 : RX27 ≠ "java/lang/invoke/MethodHandle" ∧ RX27 ≠ "java/lang/invoke/VarHandle" := by decide +kernel
theorem nh_X3 : RX3 ≠ "java/lang/invoke/MethodHandle" ∧ RX3 ≠ "java/lang/invoke/VarHandle" := by decide +kernel
theorem nh_X4 : RX4 ≠ "java/lang/invoke/MethodHandle" ∧ RX4 ≠ "java/lang/invoke/VarHandle" := by decide +kernel
theorem nh_X5 : RX5 ≠ "java/lang/invoke/MethodHandle" ∧ RX5 ≠ "java/lang/invoke/VarHandle" := by decide +kernel
theorem nh_X6 : RX6 ≠ "java/lang/invoke/MethodHandle" ∧ RX6 ≠ "java/lang/invoke/VarHandle" := by decide +kernel
theorem nh_X7 : RX7 ≠ "java/lang/invoke/MethodHandle" ∧ RX7 ≠ "java/lang/invoke/VarHandle" := by decide +kernel
theorem nh_X8 : RX8 ≠ "java/lang/invoke/MethodHandle" ∧ RX8 ≠ "java/lang/invoke/VarHandle" := by decide +kernel
theorem nh_X9 : RX9 ≠ "java/lang/invoke/MethodHandle" ∧ RX9 ≠ "java/lang/invoke/VarHandle" := by decide +kernel
theorem nh_xjava_util_Iterator : "java/util/Iterator" ≠ "java/lang/invoke/MethodHandle" ∧ "java/util/Iterator" ≠ "java/lang/invoke/VarHandle" := by decide +kernel
theorem nh_xjava_util_List : "java/util/List" ≠ "java/lang/invoke/MethodHandle" ∧ "java/util/List" ≠ "java/lang/invoke/VarHandle" := by decide +kernel
theorem nh_xjava_util_Map : "java/util/Map" ≠ "java/lang/invoke/MethodHandle" ∧ "java/util/Map" ≠ "java/lang/invoke/VarHandle" := by decide +kernel
theorem ndJ1 : ∀ j, j < 8 → defaultValue (tyJ1 j) = vp_V (([.inr (.inl none), .inr (.inl none), .inr (.inl none), .inr (.inl none), .inl 0, .inl 0, .inl 0, .inr (.inr 0)] : List hp_V).map hp_val) j := by decide +kernel
theorem ndJ10 : ∀ j, j < 4 → defaultValue (tyJ10 j) = vp_V (([.inr (.inl none), .inl 0, .inl 0, .inl 0] : List hp_V).map hp_val) j := by decide +kernel
theorem ndJ11 : ∀ j, j < 4 → defaultValue (tyJ11 j) = vp_V (([.inr (.inl none), .inl 0, .inl 0, .inl 0] : List hp_V).map hp_val) j := by decide +kernel
theorem ndJ19 : ∀ j, j < 1 → defaultValue (tyJ19 j) = vp_V (([.inl 0] : List hp_V).map hp_val) j := by decide +kernel
theorem ndJ21 : ∀ j, j < 4 → defaultValue (tyJ21 j) = vp_V (([.inl 0, .inl 0, .inr (.inl none), .inr (.inl none)] : List hp_V).map hp_val) j := by decide +kernel
theorem ndJ22 : ∀ j, j < 3 → defaultValue (tyJ22 j) = vp_V (([.inr (.inl none), .inl 0, .inl 0] : List hp_V).map hp_val) j := by decide +kernel
theorem ndJ26 : ∀ j, j < 4 → defaultValue (tyJ26 j) = vp_V (([.inl 0, .inr (.inl none), .inr (.inl none), .inr (.inl none)] : List hp_V).map hp_val) j := by decide +kernel
theorem ndJ29 : ∀ j, j < 3 → defaultValue (tyJ29 j) = vp_V (([.inr (.inl none), .inr (.inl none), .inr (.inl none)] : List hp_V).map hp_val) j := by decide +kernel
theorem ndJ36 : ∀ j, j < 5 → defaultValue (tyJ36 j) = vp_V (([.inr (.inl none), .inr (.inl none), .inl 0, .inl 0, .inr (.inl none)] : List hp_V).map hp_val) j := by decide +kernel
theorem ndJ4 : ∀ j, j < 3 → defaultValue (tyJ4 j) = vp_V (([.inl 0, .inr (.inl none), .inl 0] : List hp_V).map hp_val) j := by decide +kernel
theorem ndJ40 : ∀ j, j < 3 → defaultValue (tyJ40 j) = vp_V (([.inr (.inl none), .inl 0, .inl 0] : List hp_V).map hp_val) j := by decide +kernel
theorem ndX1 : ∀ j, j < 9 → defaultValue (tyX1 j) = vp_V (([.inr (.inl none), .inr (.inl none), .inr (.inl none), .inr (.inl none), .inr (.inl none), .inl 0, .inl 0, .inl 0, .inr (.inl none)] : List hp_V).map hp_val) j := by decide +kernel
theorem ndX11 : ∀ j, j < 10 → defaultValue (tyX11 j) = vp_V (([.inl 0, .inl 0, .inl 0, .inl 0, .inr (.inl none), .inr (.inl none), .inr (.inl none), .inr (.inl none), .inl 0, .inr (.inl none)] : List hp_V).map hp_val) j := by decide +kernel
theorem ndX12 : ∀ j, j < 8 → defaultValue (tyX12 j) = vp_V (([.inr (.inl none), .inr (.inl none), .inr (.inl none), .inr (.inl none), .inr (.inl none), .inl 0, .inl 0, .inl 0] : List hp_V).map hp_val) j := by decide +kernel
theorem ndX13 : ∀ j, j < 1 → defaultValue (tyX13 j) = vp_V (([.inr (.inl none)] : List hp_V).map hp_val) j := by decide +kernel
theorem ndX14 : ∀ j, j < 1 → defaultValue (tyX14 j) = vp_V (([.inr (.inl none)] : List hp_V).map hp_val) j := by decide +kernel
theorem ndX15 : ∀ j, j < 10 → defaultValue (tyX15 j) = vp_V (([.inl 0, .inl 0, .inl 0, .inl 0, .inr (.inl none), .inr (.inl none), .inr (.inl none), .inl 0, .inl 0, .inr (.inl none)] : List hp_V).map hp_val) j := by decide +kernel
theorem ndX17 : ∀ j, j < 2 → defaultValue (tyX17 j) = vp_V (([.inr (.inl none), .inl 0] : List hp_V).map hp_val) j := by decide +kernel
theorem ndX19 : ∀ j, j < 5 → defaultValue (tyX19 j) = vp_V (([.inr (.inl none), .inr (.inl none), .inl 0, .inl 0, .inr (.inl none)] : List hp_V).map hp_val) j := by decide +kernel
theorem ndX2 : ∀ j, j < 10 → defaultValue (tyX2 j) = vp_V (([.inr (.inl none), .inr (.inl none), .inr (.inl none), .inr (.inl none), .inr (.inl none), .inr (.inl none), .inr (.inl none), .inl 0, .inr (.inl none), .inr (.inl none)] : List hp_V).map hp_val) j := by decide +kernel
theorem ndX20 : ∀ j, j < 4 → defaultValue (tyX20 j) = vp_V (([.inr (.inl none), .inl 0, .inl 0, .inr (.inl none)] : List hp_V).map hp_val) j := by decide +kernel
theorem ndX21 : ∀ j, j < 3 → defaultValue (tyX21 j) = vp_V (([.inr (.inl none), .inl 0, .inr (.inl none)] : List hp_V).map hp_val) j := by decide +kernel
theorem ndX22 : ∀ j, j < 3 → defaultValue (tyX22 j) = vp_V (([.inr (.inl none), .inl 0, .inr (.inl none)] : List hp_V).map hp_val) j := by decide +kernel
theorem ndX23 : ∀ j, j < 5 → defaultValue (tyX23 j) = vp_V (([.inr (.inl none), .inl 0, .inl 0, .inr (.inl none), .inr (.inl none)] : List hp_V).map hp_val) j := by decide +kernel
theorem ndX24 : ∀ j, j < 5 → defaultValue (tyX24 j) = vp_V (([.inr (.inl none), .inl 0, .inl 0, .inl 0, .inr (.inl none)] : List hp_V).map hp_val) j := by decide +kernel
theorem ndX25 : ∀ j, j < 3 → defaultValue (tyX25 j) = vp_V (([.inr (.inl none), .inl 0, .inr (.inl none)] : List hp_V).map hp_val) j := by decide +kernel
theorem ndX26 : ∀ j, j < 4 → defaultValue (tyX26 j) = vp_V (([.inr (.inl none), .inr (.inl none), .inr (.inl none), .inr (.inl none)] : List hp_V).map hp_val) j := by decide +kernel
theorem ndX27 : ∀ j, j < 3 → defaultValue (tyX27 j) = vp_V (([.inl 0, .inl 0, .inr (.inl none)] : List hp_V).map hp_val) j := by decide +kernel
theorem ndX3 : ∀ j, j < 2 → defaultValue (tyX3 j) = vp_V (([.inr (.inl none), .inr (.inl none)] : List hp_V).map hp_val) j := by decide +kernel
theorem ndX5 : ∀ j, j < 5 → defaultValue (tyX5 j) = vp_V (([.inr (.inl none), .inr (.inl none), .inr (.inl none), .inl 0, .inl 0] : List hp_V).map hp_val) j := by decide +kernel
theorem ndX6 : ∀ j, j < 3 → defaultValue (tyX6 j) = vp_V (([.inr (.inl none), .inr (.inl none), .inl 0] : List hp_V).map hp_val) j := by decide +kernel
theorem ndX7 : ∀ j, j < 3 → defaultValue (tyX7 j) = vp_V (([.inr (.inl none), .inl 0, .inl 0] : List hp_V).map hp_val) j := by decide +kernel
theorem ndX8 : ∀ j, j < 2 → defaultValue (tyX8 j) = vp_V (([.inr (.inl none), .inr (.inl none)] : List hp_V).map hp_val) j := by decide +kernel
theorem ndX9 : ∀ j, j < 34 → defaultValue (tyX9 j) = vp_V (([.inr (.inl none), .inr (.inl none), .inr (.inl none), .inr (.inl none), .inr (.inl none), .inr (.inl none), .inl 0, .inl 0, .inr (.inl none), .inr (.inl none), .inr (.inl none), .inr (.inl none), .inl 0, .inl 0, .inl 0, .inl 0, .inl 0, .inl 0, .inl 0, .inl 0, .inl 0, .inl 0, .inr (.inl none), .inr (.inl none), .inr (.inl none), .inr (.inl none), .inr (.inl none), .inr (.inl none), .inr (.inl none), .inl 0, .inl 0, .inl 0, .inr (.inl none), .inl 0] : List hp_V).map hp_val) j := by decide +kernel
theorem nx_of {ws : List Cond} (ps : List Nat) (e : ws = ps.filterMap (fun i => lw_tbl[i]?)) (g : ws.all (fun w => goodWord w || hp_ngk w) = true) : ∀ w ∈ ws, w ∈ lw_tbl ∧ (goodWord w || hp_ngk w) = true := by
  intro w hw
  refine ⟨?_, List.all_eq_true.mp g w hw⟩
  rw [e] at hw
  obtain ⟨i, -, hi⟩ := List.mem_filterMap.mp hw
  exact List.mem_of_getElem? hi
theorem nx_X1_size_114 : ∀ w ∈ vx_at0 "RenamedWords" 120 "java/lang/IllegalArgumentException" ["java/lang/RuntimeException", "java/lang/Exception"], w ∈ lw_tbl ∧ (goodWord w || hp_ngk w) = true := nx_of [140, 295, 304, 312, 315, 317, 296, 297, 212, 213, 298, 303, 313, 553, 285, 554, 287, 555, 289, 299, 301, 291, 3035, 3036, 3037, 2229, 276, 2229, 2230, 2231, 2232, 278, 2232, 2233, 2234, 296, 280, 3034, 274, 275, 282, 283, 284, 286, 288, 290, 551, 293, 292] (by decide +kernel) (by decide +kernel)
theorem nx_X1_index_4 : ∀ w ∈ vx_at0 "RenamedWords" 117 "java/lang/IndexOutOfBoundsException" ["java/lang/RuntimeException", "java/lang/Exception"], w ∈ lw_tbl ∧ (goodWord w || hp_ngk w) = true := nx_of [140, 295, 304, 312, 315, 317, 296, 297, 212, 213, 298, 303, 313, 553, 285, 554, 287, 555, 289, 299, 301, 291, 3071, 3072, 3073, 2229, 276, 2229, 2230, 2231, 2232, 278, 2232, 2233, 2234, 296, 280, 3070, 2273, 2274, 2275, 309, 2276, 2277, 2278, 2279, 551, 293, 2280] (by decide +kernel) (by decide +kernel)
theorem nx_X1_argument_4 : ∀ w ∈ vx_at0 "RenamedWords" 120 "java/lang/IllegalArgumentException" ["java/lang/RuntimeException", "java/lang/Exception"], w ∈ lw_tbl ∧ (goodWord w || hp_ngk w) = true := nx_of [140, 295, 304, 312, 315, 317, 296, 297, 212, 213, 298, 303, 313, 553, 285, 554, 287, 555, 289, 299, 301, 291, 3035, 3036, 3037, 2229, 276, 2229, 2230, 2231, 2232, 278, 2232, 2233, 2234, 296, 280, 3034, 274, 275, 282, 283, 284, 286, 288, 290, 551, 293, 292] (by decide +kernel) (by decide +kernel)
theorem nx_X1_pattern_163 : ∀ w ∈ vx_at0 "RenamedWords" 120 "java/lang/IllegalArgumentException" ["java/lang/RuntimeException", "java/lang/Exception"], w ∈ lw_tbl ∧ (goodWord w || hp_ngk w) = true := nx_of [140, 295, 304, 312, 315, 317, 296, 297, 212, 213, 298, 303, 313, 553, 285, 554, 287, 555, 289, 299, 301, 291, 3035, 3036, 3037, 2229, 276, 2229, 2230, 2231, 2232, 278, 2232, 2233, 2234, 296, 280, 3034, 274, 275, 282, 283, 284, 286, 288, 290, 551, 293, 292] (by decide +kernel) (by decide +kernel)
theorem nx_X1_element_4 : ∀ w ∈ vx_at0 "RenamedWords" 123 "java/util/NoSuchElementException" ["java/lang/RuntimeException", "java/lang/Exception"], w ∈ lw_tbl ∧ (goodWord w || hp_ngk w) = true := nx_of [140, 295, 304, 312, 315, 317, 296, 297, 212, 213, 298, 303, 313, 553, 285, 554, 287, 555, 289, 299, 301, 291, 2226, 2227, 2228, 2229, 276, 2229, 2230, 2231, 2232, 278, 2232, 2233, 2234, 296, 280, 3251, 2217, 2218, 2219, 311, 2220, 2221, 2222, 2223, 551, 293, 2224] (by decide +kernel) (by decide +kernel)
theorem fl_J1_81_23 : hp_fl "java/util/HashMap" 81 23 7 true "F" := hp_fl.of tyJ1 rfl (by decide) in_J1 tyJ1_ok (hp_ap.of nmJ1) q239 rfl rfl
theorem fl_J3_7_24 : hp_fl "java/util/AbstractList" 7 24 0 false "I" := hp_fl.of tyJ4 rfl (by decide) in_J4 tyJ4_ok (hp_ap.of nmJ4) q595 rfl rfl
theorem fl_J3_7_28 : hp_fl "java/util/AbstractList" 7 28 0 false "I" := hp_fl.of tyJ21 rfl (by decide) in_J21 tyJ21_ok (hp_ap.of nmJ21) q595 rfl rfl
theorem fl_J4_9_24 : hp_fl "java/util/ArrayList" 9 24 1 false "[Ljava/lang/Object;" := hp_fl.of tyJ4 rfl (by decide) in_J4 tyJ4_ok (hp_ap.of nmJ4) q591 rfl rfl
theorem fl_X3_12_2 : hp_fl "RenamedWords$Names" 12 2 0 true "Ljava/util/Map;" := hp_fl.of tyX3 rfl (by decide) in_X3 tyX3_ok (hp_ap.of nmX3) q610 rfl rfl
theorem fl_X3_23_2 : hp_fl "RenamedWords$Names" 23 2 1 true "Ljava/util/List;" := hp_fl.of tyX3 rfl (by decide) in_X3 tyX3_ok (hp_ap.of nmX3) q611 rfl rfl
theorem fl_X5_9_3 : hp_fl "RenamedWords$Text" 9 3 0 true "[I" := hp_fl.of tyX5 rfl (by decide) in_X5 tyX5_ok (hp_ap.of nmX5) q632 rfl rfl
theorem fl_X5_15_3 : hp_fl "RenamedWords$Text" 15 3 1 true "[I" := hp_fl.of tyX5 rfl (by decide) in_X5 tyX5_ok (hp_ap.of nmX5) q635 rfl rfl
theorem fl_X5_18_3 : hp_fl "RenamedWords$Text" 18 3 2 true "[I" := hp_fl.of tyX5 rfl (by decide) in_X5 tyX5_ok (hp_ap.of nmX5) q636 rfl rfl
theorem fl_X5_21_3 : hp_fl "RenamedWords$Text" 21 3 4 false "I" := hp_fl.of tyX5 rfl (by decide) in_X5 tyX5_ok (hp_ap.of nmX5) q641 rfl rfl
theorem fl_X8_9_6 : hp_fl "RenamedWords$Inventory" 9 6 0 true "[I" := hp_fl.of tyX8 rfl (by decide) in_X8 tyX8_ok (hp_ap.of nmX8) q699 rfl rfl
theorem fl_X8_15_6 : hp_fl "RenamedWords$Inventory" 15 6 1 true "[I" := hp_fl.of tyX8 rfl (by decide) in_X8 tyX8_ok (hp_ap.of nmX8) q700 rfl rfl
theorem fl_X2_12_1 : hp_fl "RenamedWords$Desk" 12 1 0 true "LRenamedWords$Text;" := hp_fl.of tyX2 rfl (by decide) in_X2 tyX2_ok (hp_ap.of nmX2) q706 rfl rfl
theorem fl_X2_20_1 : hp_fl "RenamedWords$Desk" 20 1 2 true "[LRenamedWords$Word;" := hp_fl.of tyX2 rfl (by decide) in_X2 tyX2_ok (hp_ap.of nmX2) q713 rfl rfl
theorem fl_X2_27_1 : hp_fl "RenamedWords$Desk" 27 1 3 true "LRenamedWords$Marks;" := hp_fl.of tyX2 rfl (by decide) in_X2 tyX2_ok (hp_ap.of nmX2) q716 rfl rfl
theorem fl_X2_31_1 : hp_fl "RenamedWords$Desk" 31 1 4 true "[I" := hp_fl.of tyX2 rfl (by decide) in_X2 tyX2_ok (hp_ap.of nmX2) q718 rfl rfl
theorem fl_X2_38_1 : hp_fl "RenamedWords$Desk" 38 1 5 true "LRenamedWords$Window;" := hp_fl.of tyX2 rfl (by decide) in_X2 tyX2_ok (hp_ap.of nmX2) q720 rfl rfl
theorem fl_X2_42_1 : hp_fl "RenamedWords$Desk" 42 1 6 true "LRenamedWords$Window;" := hp_fl.of tyX2 rfl (by decide) in_X2 tyX2_ok (hp_ap.of nmX2) q722 rfl rfl
theorem fl_X2_48_1 : hp_fl "RenamedWords$Desk" 48 1 8 true "LRenamedWords$Inventory;" := hp_fl.of tyX2 rfl (by decide) in_X2 tyX2_ok (hp_ap.of nmX2) q726 rfl rfl
theorem fl_X2_52_1 : hp_fl "RenamedWords$Desk" 52 1 9 true "LRenamedWords$Inventory;" := hp_fl.of tyX2 rfl (by decide) in_X2 tyX2_ok (hp_ap.of nmX2) q727 rfl rfl
theorem fl_X2_55_1 : hp_fl "RenamedWords$Desk" 55 1 1 true "LRenamedWords$Names;" := hp_fl.of tyX2 rfl (by decide) in_X2 tyX2_ok (hp_ap.of nmX2) q709 rfl rfl
theorem fl_X1_79_1 : hp_fl "RenamedWords" 79 1 0 true "LRenamedWords$Text;" := hp_fl.ofN tyX2 rfl (by decide) in_X2 tyX2_ok (hp_ap.of nmX2) q708 rfl rfl
theorem fl_X1_83_3 : hp_fl "RenamedWords" 83 3 3 false "I" := hp_fl.ofN tyX5 rfl (by decide) in_X5 tyX5_ok (hp_ap.of nmX5) q640 rfl rfl
theorem fl_J21_7_28 : hp_fl "java/util/LinkedList" 7 28 1 false "I" := hp_fl.of tyJ21 rfl (by decide) in_J21 tyJ21_ok (hp_ap.of nmJ21) q758 rfl rfl
theorem fl_J22_3_29 : hp_fl "java/util/ArrayDeque" 3 29 0 false "[Ljava/lang/Object;" := hp_fl.of tyJ22 rfl (by decide) in_J22 tyJ22_ok (hp_ap.of nmJ22) q777 rfl rfl
theorem fl_X1_35_0 : hp_fl "RenamedWords" 35 0 0 false "LRenamedWords$Desk;" := hp_fl.of tyX1 rfl (by decide) in_X1 tyX1_ok (hp_ap.of nmX1) q797 rfl rfl
theorem fl_X1_42_0 : hp_fl "RenamedWords" 42 0 1 true "Ljava/util/LinkedList;" := hp_fl.of tyX1 rfl (by decide) in_X1 tyX1_ok (hp_ap.of nmX1) q798 rfl rfl
theorem fl_X1_49_0 : hp_fl "RenamedWords" 49 0 2 true "Ljava/util/ArrayDeque;" := hp_fl.of tyX1 rfl (by decide) in_X1 tyX1_ok (hp_ap.of nmX1) q799 rfl rfl
theorem fl_X1_55_0 : hp_fl "RenamedWords" 55 0 3 true "[LRenamedWords$Desk;" := hp_fl.of tyX1 rfl (by decide) in_X1 tyX1_ok (hp_ap.of nmX1) q800 rfl rfl
theorem fl_X1_59_0 : hp_fl "RenamedWords" 59 0 4 true "[B" := hp_fl.of tyX1 rfl (by decide) in_X1 tyX1_ok (hp_ap.of nmX1) q802 rfl rfl
theorem fl_X1_63_0 : hp_fl "RenamedWords" 63 0 6 false "I" := hp_fl.of tyX1 rfl (by decide) in_X1 tyX1_ok (hp_ap.of nmX1) q805 rfl rfl
theorem fl_X1_69_0 : hp_fl "RenamedWords" 69 0 8 false "Ljava/lang/String;" := hp_fl.of tyX1 rfl (by decide) in_X1 tyX1_ok (hp_ap.of nmX1) q808 rfl rfl
theorem fl_X9_9_7 : hp_fl "RenamedWordsModel" 9 7 0 true "[I" := hp_fl.of tyX9 rfl (by decide) in_X9 tyX9_ok (hp_ap.of nmX9) q3444 rfl rfl
theorem fl_X9_13_7 : hp_fl "RenamedWordsModel" 13 7 1 true "[I" := hp_fl.of tyX9 rfl (by decide) in_X9 tyX9_ok (hp_ap.of nmX9) q3445 rfl rfl
theorem fl_X9_16_7 : hp_fl "RenamedWordsModel" 16 7 2 true "[I" := hp_fl.of tyX9 rfl (by decide) in_X9 tyX9_ok (hp_ap.of nmX9) q3446 rfl rfl
theorem fl_X9_19_7 : hp_fl "RenamedWordsModel" 19 7 3 true "[I" := hp_fl.of tyX9 rfl (by decide) in_X9 tyX9_ok (hp_ap.of nmX9) q3447 rfl rfl
theorem fl_X9_22_7 : hp_fl "RenamedWordsModel" 22 7 4 true "[I" := hp_fl.of tyX9 rfl (by decide) in_X9 tyX9_ok (hp_ap.of nmX9) q3448 rfl rfl
theorem fl_X9_25_7 : hp_fl "RenamedWordsModel" 25 7 5 true "[Z" := hp_fl.of tyX9 rfl (by decide) in_X9 tyX9_ok (hp_ap.of nmX9) q3449 rfl rfl
theorem fl_X9_29_7 : hp_fl "RenamedWordsModel" 29 7 8 true "[I" := hp_fl.of tyX9 rfl (by decide) in_X9 tyX9_ok (hp_ap.of nmX9) q3452 rfl rfl
theorem fl_X9_32_7 : hp_fl "RenamedWordsModel" 32 7 9 true "[I" := hp_fl.of tyX9 rfl (by decide) in_X9 tyX9_ok (hp_ap.of nmX9) q3453 rfl rfl
theorem fl_X9_35_7 : hp_fl "RenamedWordsModel" 35 7 10 true "[I" := hp_fl.of tyX9 rfl (by decide) in_X9 tyX9_ok (hp_ap.of nmX9) q3454 rfl rfl
theorem fl_X9_38_7 : hp_fl "RenamedWordsModel" 38 7 11 true "[I" := hp_fl.of tyX9 rfl (by decide) in_X9 tyX9_ok (hp_ap.of nmX9) q3455 rfl rfl
theorem fl_X9_41_7 : hp_fl "RenamedWordsModel" 41 7 19 false "I" := hp_fl.of tyX9 rfl (by decide) in_X9 tyX9_ok (hp_ap.of nmX9) q3463 rfl rfl
theorem fl_X9_45_7 : hp_fl "RenamedWordsModel" 45 7 22 true "[I" := hp_fl.of tyX9 rfl (by decide) in_X9 tyX9_ok (hp_ap.of nmX9) q3466 rfl rfl
theorem fl_X9_48_7 : hp_fl "RenamedWordsModel" 48 7 23 true "[I" := hp_fl.of tyX9 rfl (by decide) in_X9 tyX9_ok (hp_ap.of nmX9) q3467 rfl rfl
theorem fl_X9_51_7 : hp_fl "RenamedWordsModel" 51 7 24 true "[I" := hp_fl.of tyX9 rfl (by decide) in_X9 tyX9_ok (hp_ap.of nmX9) q3468 rfl rfl
theorem fl_X9_54_7 : hp_fl "RenamedWordsModel" 54 7 25 true "[I" := hp_fl.of tyX9 rfl (by decide) in_X9 tyX9_ok (hp_ap.of nmX9) q3469 rfl rfl
theorem fl_X9_57_7 : hp_fl "RenamedWordsModel" 57 7 26 true "[I" := hp_fl.of tyX9 rfl (by decide) in_X9 tyX9_ok (hp_ap.of nmX9) q3470 rfl rfl
theorem fl_X9_60_7 : hp_fl "RenamedWordsModel" 60 7 27 true "[I" := hp_fl.of tyX9 rfl (by decide) in_X9 tyX9_ok (hp_ap.of nmX9) q3471 rfl rfl
theorem fl_X9_63_7 : hp_fl "RenamedWordsModel" 63 7 28 true "[I" := hp_fl.of tyX9 rfl (by decide) in_X9 tyX9_ok (hp_ap.of nmX9) q3472 rfl rfl
theorem fl_X9_66_7 : hp_fl "RenamedWordsModel" 66 7 32 true "[I" := hp_fl.of tyX9 rfl (by decide) in_X9 tyX9_ok (hp_ap.of nmX9) q3476 rfl rfl
theorem fl_X1_124_0 : hp_fl "RenamedWords" 124 0 5 false "I" := hp_fl.of tyX1 rfl (by decide) in_X1 tyX1_ok (hp_ap.of nmX1) q804 rfl rfl
theorem fl_X9_148_7 : hp_fl "RenamedWordsModel" 148 7 12 false "I" := hp_fl.of tyX9 rfl (by decide) in_X9 tyX9_ok (hp_ap.of nmX9) q3456 rfl rfl
theorem fl_X9_69_7 : hp_fl "RenamedWordsModel" 69 7 7 false "I" := hp_fl.of tyX9 rfl (by decide) in_X9 tyX9_ok (hp_ap.of nmX9) q3451 rfl rfl
theorem fl_X10_19_8 : hp_fl "RenamedWords$Reader" 19 8 0 true "I" := hp_fl.of tyX11 rfl (by decide) in_X11 tyX11_ok apX11 q917 rfl rfl
theorem fl_X10_19_12 : hp_fl "RenamedWords$Reader" 19 12 0 true "I" := hp_fl.of tyX15 rfl (by decide) in_X15 tyX15_ok apX15 q917 rfl rfl
theorem fl_X10_3_8 : hp_fl "RenamedWords$Reader" 3 8 6 true "LRenamedWords;" := hp_fl.of tyX11 rfl (by decide) in_X11 tyX11_ok apX11 q923 rfl rfl
theorem fl_X10_3_12 : hp_fl "RenamedWords$Reader" 3 12 6 true "LRenamedWords;" := hp_fl.of tyX15 rfl (by decide) in_X15 tyX15_ok apX15 q923 rfl rfl
theorem fl_X10_40_0 : hp_fl "RenamedWords$Reader" 40 0 4 true "[B" := hp_fl.ofN tyX1 rfl (by decide) in_X1 tyX1_ok (hp_ap.of nmX1) q801 rfl rfl
theorem fl_J9_15_25 : hp_fl "java/lang/AbstractStringBuilder" 15 25 0 false "[B" := hp_fl.of tyJ10 rfl (by decide) in_J10 tyJ10_ok (hp_ap.of nmJ10) q336 rfl rfl
theorem fl_J9_22_25 : hp_fl "java/lang/AbstractStringBuilder" 22 25 1 false "B" := hp_fl.of tyJ10 rfl (by decide) in_J10 tyJ10_ok (hp_ap.of nmJ10) q337 rfl rfl
theorem fl_J9_79_25 : hp_fl "java/lang/AbstractStringBuilder" 79 25 3 false "I" := hp_fl.of tyJ10 rfl (by decide) in_J10 tyJ10_ok (hp_ap.of nmJ10) q339 rfl rfl
theorem fl_J11_15_26 : hp_fl "java/lang/String" 15 26 1 true "B" := hp_fl.of tyJ11 rfl (by decide) in_J11 tyJ11_ok (hp_ap.of nmJ11) q578 rfl rfl
theorem fl_J11_9_26 : hp_fl "java/lang/String" 9 26 0 true "[B" := hp_fl.of tyJ11 rfl (by decide) in_J11 tyJ11_ok (hp_ap.of nmJ11) q577 rfl rfl
theorem fl_J11_1048_25 : hp_fl "java/lang/String" 1048 25 2 false "Z" := hp_fl.of tyJ10 rfl (by decide) in_J10 tyJ10_ok (hp_ap.of nmJ10) q338 rfl rfl
theorem fl_X10_44_8 : hp_fl "RenamedWords$Reader" 44 8 1 false "I" := hp_fl.of tyX11 rfl (by decide) in_X11 tyX11_ok apX11 q918 rfl rfl
theorem fl_X10_44_12 : hp_fl "RenamedWords$Reader" 44 12 1 false "I" := hp_fl.of tyX15 rfl (by decide) in_X15 tyX15_ok apX15 q918 rfl rfl
theorem fl_X10_51_8 : hp_fl "RenamedWords$Reader" 51 8 2 false "I" := hp_fl.of tyX11 rfl (by decide) in_X11 tyX11_ok apX11 q919 rfl rfl
theorem fl_X10_51_12 : hp_fl "RenamedWords$Reader" 51 12 2 false "I" := hp_fl.of tyX15 rfl (by decide) in_X15 tyX15_ok apX15 q919 rfl rfl
theorem fl_X10_33_8 : hp_fl "RenamedWords$Reader" 33 8 5 false "Ljava/lang/String;" := hp_fl.of tyX11 rfl (by decide) in_X11 tyX11_ok apX11 q922 rfl rfl
theorem fl_X10_33_12 : hp_fl "RenamedWords$Reader" 33 12 5 false "Ljava/lang/String;" := hp_fl.of tyX15 rfl (by decide) in_X15 tyX15_ok apX15 q922 rfl rfl
theorem fl_X10_28_8 : hp_fl "RenamedWords$Reader" 28 8 4 false "LRenamedWords$Sort;" := hp_fl.of tyX11 rfl (by decide) in_X11 tyX11_ok apX11 q921 rfl rfl
theorem fl_X10_28_12 : hp_fl "RenamedWords$Reader" 28 12 4 false "LRenamedWords$Sort;" := hp_fl.of tyX15 rfl (by decide) in_X15 tyX15_ok apX15 q921 rfl rfl
theorem fl_X10_80_8 : hp_fl "RenamedWords$Reader" 80 8 3 false "I" := hp_fl.of tyX11 rfl (by decide) in_X11 tyX11_ok apX11 q920 rfl rfl
theorem fl_X10_80_12 : hp_fl "RenamedWords$Reader" 80 12 3 false "I" := hp_fl.of tyX15 rfl (by decide) in_X15 tyX15_ok apX15 q920 rfl rfl
theorem fl_X10_15_0 : hp_fl "RenamedWords$Reader" 15 0 5 false "I" := hp_fl.ofN tyX1 rfl (by decide) in_X1 tyX1_ok (hp_ap.of nmX1) q803 rfl rfl
theorem fl_X11_3_8 : hp_fl "RenamedWords$SetupReader" 3 8 9 true "LRenamedWords;" := hp_fl.of tyX11 rfl (by decide) in_X11 tyX11_ok apX11 q916 rfl rfl
theorem fl_X11_25_8 : hp_fl "RenamedWords$SetupReader" 25 8 7 true "LRenamedWords$Desk;" := hp_fl.of tyX11 rfl (by decide) in_X11 tyX11_ok apX11 q914 rfl rfl
theorem fl_J5_7_9 : hp_fl "java/lang/Throwable" 7 9 0 false "Ljava/lang/Throwable;" := hp_fl.of tyX12 rfl (by decide) in_X12 tyX12_ok (hp_ap.of nmX12) q553 rfl rfl
theorem fl_J5_17_9 : hp_fl "java/lang/Throwable" 17 9 1 false "[Ljava/lang/StackTraceElement;" := hp_fl.of tyX12 rfl (by decide) in_X12 tyX12_ok (hp_ap.of nmX12) q554 rfl rfl
theorem fl_J5_24_9 : hp_fl "java/lang/Throwable" 24 9 2 false "Ljava/util/List;" := hp_fl.of tyX12 rfl (by decide) in_X12 tyX12_ok (hp_ap.of nmX12) q555 rfl rfl
theorem fl_J5_31_9 : hp_fl "java/lang/Throwable" 31 9 3 false "Ljava/lang/String;" := hp_fl.of tyX12 rfl (by decide) in_X12 tyX12_ok (hp_ap.of nmX12) q552 rfl rfl
theorem fl_X12_7_9 : hp_fl "RenamedWords$Unreadable" 7 9 6 true "I" := hp_fl.of tyX12 rfl (by decide) in_X12 tyX12_ok (hp_ap.of nmX12) q988 rfl rfl
theorem fl_X12_13_9 : hp_fl "RenamedWords$Unreadable" 13 9 7 true "I" := hp_fl.of tyX12 rfl (by decide) in_X12 tyX12_ok (hp_ap.of nmX12) q990 rfl rfl
theorem fl_X11_69_1 : hp_fl "RenamedWords$SetupReader" 69 1 0 true "LRenamedWords$Text;" := hp_fl.ofN tyX2 rfl (by decide) in_X2 tyX2_ok (hp_ap.of nmX2) q707 rfl rfl
theorem fl_X11_72_3 : hp_fl "RenamedWords$SetupReader" 72 3 3 false "I" := hp_fl.ofN tyX5 rfl (by decide) in_X5 tyX5_ok (hp_ap.of nmX5) q638 rfl rfl
theorem fl_X11_78_3 : hp_fl "RenamedWords$SetupReader" 78 3 0 true "[I" := hp_fl.ofN tyX5 rfl (by decide) in_X5 tyX5_ok (hp_ap.of nmX5) q633 rfl rfl
theorem fl_J11_19_26 : hp_fl "java/lang/String" 19 26 2 false "I" := hp_fl.of tyJ11 rfl (by decide) in_J11 tyJ11_ok (hp_ap.of nmJ11) q579 rfl rfl
theorem fl_J11_23_26 : hp_fl "java/lang/String" 23 26 3 false "Z" := hp_fl.of tyJ11 rfl (by decide) in_J11 tyJ11_ok (hp_ap.of nmJ11) q580 rfl rfl
theorem fl_J4_48_24 : hp_fl "java/util/ArrayList" 48 24 2 false "I" := hp_fl.of tyJ4 rfl (by decide) in_J4 tyJ4_ok (hp_ap.of nmJ4) q594 rfl rfl
theorem fl_X2_111_2 : hp_fl "RenamedWords$Desk" 111 2 1 true "Ljava/util/List;" := hp_fl.ofN tyX3 rfl (by decide) in_X3 tyX3_ok (hp_ap.of nmX3) q612 rfl rfl
theorem fl_X13_7_10 : hp_fl "RenamedWords$Name" 7 10 0 true "Ljava/lang/String;" := hp_fl.of tyX13 rfl (by decide) in_X13 tyX13_ok (hp_ap.of nmX13) q1150 rfl rfl
theorem fl_J1_105_23 : hp_fl "java/util/HashMap" 105 23 2 false "[Ljava/util/HashMap$Node;" := hp_fl.of tyJ1 rfl (by decide) in_J1 tyJ1_ok (hp_ap.of nmJ1) q235 rfl rfl
theorem fl_J1_168_30 : hp_fl "java/util/HashMap" 168 30 0 true "I" := hp_fl.of tyJ26 rfl (by decide) in_J26 tyJ26_ok (hp_ap.of nmJ26) q1639 rfl rfl
theorem fl_J1_177_30 : hp_fl "java/util/HashMap" 177 30 3 false "Ljava/util/HashMap$Node;" := hp_fl.of tyJ26 rfl (by decide) in_J26 tyJ26_ok (hp_ap.of nmJ26) q1650 rfl rfl
theorem fl_J1_170_30 : hp_fl "java/util/HashMap" 170 30 1 true "Ljava/lang/Object;" := hp_fl.of tyJ26 rfl (by decide) in_J26 tyJ26_ok (hp_ap.of nmJ26) q1643 rfl rfl
theorem fl_J1_162_30 : hp_fl "java/util/HashMap" 162 30 2 false "Ljava/lang/Object;" := hp_fl.of tyJ26 rfl (by decide) in_J26 tyJ26_ok (hp_ap.of nmJ26) q1645 rfl rfl
theorem fl_J19_205_27 : hp_fl "java/lang/Integer" 205 27 0 true "I" := hp_fl.of tyJ19 rfl (by decide) in_J19 tyJ19_ok (hp_ap.of nmJ19) q1592 rfl rfl
theorem fl_X14_9_11 : hp_fl "RenamedWords$Word" 9 11 0 true "[I" := hp_fl.of tyX14 rfl (by decide) in_X14 tyX14_ok (hp_ap.of nmX14) q1567 rfl rfl
theorem fl_J1_88_23 : hp_fl "java/util/HashMap" 88 23 6 false "I" := hp_fl.of tyJ1 rfl (by decide) in_J1 tyJ1_ok (hp_ap.of nmJ1) q238 rfl rfl
theorem ca_java_util_HashMap_Node_30 : hp_ca "java/util/HashMap$Node" 30 := ⟨_, rfl, Or.inl rfl⟩
theorem fl_J26_7_30 : hp_fl "java/util/HashMap$Node" 7 30 0 true "I" := hp_fl.of tyJ26 rfl (by decide) in_J26 tyJ26_ok (hp_ap.of nmJ26) q1636 rfl rfl
theorem fl_J26_13_30 : hp_fl "java/util/HashMap$Node" 13 30 1 true "Ljava/lang/Object;" := hp_fl.of tyJ26 rfl (by decide) in_J26 tyJ26_ok (hp_ap.of nmJ26) q1640 rfl rfl
theorem fl_J26_17_30 : hp_fl "java/util/HashMap$Node" 17 30 2 false "Ljava/lang/Object;" := hp_fl.of tyJ26 rfl (by decide) in_J26 tyJ26_ok (hp_ap.of nmJ26) q1644 rfl rfl
theorem fl_J26_20_30 : hp_fl "java/util/HashMap$Node" 20 30 3 false "Ljava/util/HashMap$Node;" := hp_fl.of tyJ26 rfl (by decide) in_J26 tyJ26_ok (hp_ap.of nmJ26) q1646 rfl rfl
theorem fl_J1_202_23 : hp_fl "java/util/HashMap" 202 23 5 false "I" := hp_fl.of tyJ1 rfl (by decide) in_J1 tyJ1_ok (hp_ap.of nmJ1) q237 rfl rfl
theorem fl_J1_156_23 : hp_fl "java/util/HashMap" 156 23 4 false "I" := hp_fl.of tyJ1 rfl (by decide) in_J1 tyJ1_ok (hp_ap.of nmJ1) q236 rfl rfl
theorem ca_java_lang_Object_1 : hp_ca "java/lang/Object" 1 := ⟨_, rfl, Or.inr q4132⟩
theorem ca_java_lang_Object_26 : hp_ca "java/lang/Object" 26 := ⟨_, rfl, Or.inr q4140⟩
theorem fl_J4_63_24 : hp_fl "java/util/ArrayList" 63 24 0 false "I" := hp_fl.ofS tyJ4 rfl (by decide) in_J4 tyJ4_ok (hp_ap.of nmJ4) q602 q599 rfl rfl
theorem fl_J4_63_28 : hp_fl "java/util/ArrayList" 63 28 0 false "I" := hp_fl.ofS tyJ21 rfl (by decide) in_J21 tyJ21_ok (hp_ap.of nmJ21) q602 q599 rfl rfl
theorem fl_X11_105_1 : hp_fl "RenamedWords$SetupReader" 105 1 1 true "LRenamedWords$Names;" := hp_fl.ofN tyX2 rfl (by decide) in_X2 tyX2_ok (hp_ap.of nmX2) q711 rfl rfl
theorem fl_X11_113_1 : hp_fl "RenamedWords$SetupReader" 113 1 2 true "[LRenamedWords$Word;" := hp_fl.ofN tyX2 rfl (by decide) in_X2 tyX2_ok (hp_ap.of nmX2) q714 rfl rfl
theorem ca_RenamedWords_Word_11 : hp_ca "RenamedWords$Word" 11 := ⟨_, rfl, Or.inl rfl⟩
theorem fl_X11_126_8 : hp_fl "RenamedWords$SetupReader" 126 8 8 false "Z" := hp_fl.of tyX11 rfl (by decide) in_X11 tyX11_ok apX11 q915 rfl rfl
theorem fl_X11_134_1 : hp_fl "RenamedWords$SetupReader" 134 1 7 false "I" := hp_fl.ofN tyX2 rfl (by decide) in_X2 tyX2_ok (hp_ap.of nmX2) q724 rfl rfl
theorem fl_X1_138_9 : hp_fl "RenamedWords" 138 9 7 true "I" := hp_fl.ofN tyX12 rfl (by decide) in_X12 tyX12_ok (hp_ap.of nmX12) q991 rfl rfl
theorem fl_X1_143_9 : hp_fl "RenamedWords" 143 9 6 true "I" := hp_fl.ofN tyX12 rfl (by decide) in_X12 tyX12_ok (hp_ap.of nmX12) q989 rfl rfl
theorem fl_J21_18_28 : hp_fl "java/util/LinkedList" 18 28 2 false "Ljava/util/LinkedList$Node;" := hp_fl.of tyJ21 rfl (by decide) in_J21 tyJ21_ok (hp_ap.of nmJ21) q760 rfl rfl
theorem fl_J21_27_28 : hp_fl "java/util/LinkedList" 27 28 3 false "Ljava/util/LinkedList$Node;" := hp_fl.of tyJ21 rfl (by decide) in_J21 tyJ21_ok (hp_ap.of nmJ21) q761 rfl rfl
theorem fl_J21_33_24 : hp_fl "java/util/LinkedList" 33 24 0 false "I" := hp_fl.ofS tyJ4 rfl (by decide) in_J4 tyJ4_ok (hp_ap.of nmJ4) q601 q597 rfl rfl
theorem fl_J21_33_28 : hp_fl "java/util/LinkedList" 33 28 0 false "I" := hp_fl.ofS tyJ21 rfl (by decide) in_J21 tyJ21_ok (hp_ap.of nmJ21) q601 q597 rfl rfl
theorem fl_J21_36_31 : hp_fl "java/util/LinkedList" 36 31 1 false "Ljava/util/LinkedList$Node;" := hp_fl.of tyJ29 rfl (by decide) in_J29 tyJ29_ok (hp_ap.of nmJ29) q1795 rfl rfl
theorem fl_J21_39_31 : hp_fl "java/util/LinkedList" 39 31 0 false "Ljava/lang/Object;" := hp_fl.of tyJ29 rfl (by decide) in_J29 tyJ29_ok (hp_ap.of nmJ29) q1792 rfl rfl
theorem fl_J21_30_31 : hp_fl "java/util/LinkedList" 30 31 2 false "Ljava/util/LinkedList$Node;" := hp_fl.of tyJ29 rfl (by decide) in_J29 tyJ29_ok (hp_ap.of nmJ29) q1797 rfl rfl
theorem fl_J22_24_29 : hp_fl "java/util/ArrayDeque" 24 29 1 false "I" := hp_fl.of tyJ22 rfl (by decide) in_J22 tyJ22_ok (hp_ap.of nmJ22) q778 rfl rfl
theorem fl_J22_20_29 : hp_fl "java/util/ArrayDeque" 20 29 2 false "I" := hp_fl.of tyJ22 rfl (by decide) in_J22 tyJ22_ok (hp_ap.of nmJ22) q779 rfl rfl
theorem ca_RenamedWords_Desk_1 : hp_ca "RenamedWords$Desk" 1 := ⟨_, rfl, Or.inl rfl⟩
theorem fl_X9_163_7 : hp_fl "RenamedWordsModel" 163 7 14 false "I" := hp_fl.of tyX9 rfl (by decide) in_X9 tyX9_ok (hp_ap.of nmX9) q3458 rfl rfl
theorem fl_X9_166_7 : hp_fl "RenamedWordsModel" 166 7 13 false "I" := hp_fl.of tyX9 rfl (by decide) in_X9 tyX9_ok (hp_ap.of nmX9) q3457 rfl rfl
theorem fl_X9_169_7 : hp_fl "RenamedWordsModel" 169 7 16 false "I" := hp_fl.of tyX9 rfl (by decide) in_X9 tyX9_ok (hp_ap.of nmX9) q3460 rfl rfl
theorem fl_X9_172_7 : hp_fl "RenamedWordsModel" 172 7 15 false "I" := hp_fl.of tyX9 rfl (by decide) in_X9 tyX9_ok (hp_ap.of nmX9) q3459 rfl rfl
theorem fl_X9_182_7 : hp_fl "RenamedWordsModel" 182 7 17 false "I" := hp_fl.of tyX9 rfl (by decide) in_X9 tyX9_ok (hp_ap.of nmX9) q3461 rfl rfl
theorem fl_X9_185_7 : hp_fl "RenamedWordsModel" 185 7 18 false "I" := hp_fl.of tyX9 rfl (by decide) in_X9 tyX9_ok (hp_ap.of nmX9) q3462 rfl rfl
theorem fl_X9_223_7 : hp_fl "RenamedWordsModel" 223 7 20 false "I" := hp_fl.of tyX9 rfl (by decide) in_X9 tyX9_ok (hp_ap.of nmX9) q3464 rfl rfl
theorem fl_X9_248_7 : hp_fl "RenamedWordsModel" 248 7 21 false "Z" := hp_fl.of tyX9 rfl (by decide) in_X9 tyX9_ok (hp_ap.of nmX9) q3465 rfl rfl
theorem fl_X9_264_7 : hp_fl "RenamedWordsModel" 264 7 6 false "I" := hp_fl.of tyX9 rfl (by decide) in_X9 tyX9_ok (hp_ap.of nmX9) q3450 rfl rfl
theorem fl_X15_3_12 : hp_fl "RenamedWords$ScriptReader" 3 12 9 true "LRenamedWords;" := hp_fl.of tyX15 rfl (by decide) in_X15 tyX15_ok apX15 q1848 rfl rfl
theorem fl_X17_10_13 : hp_fl "RenamedWords$Script" 10 13 0 true "Ljava/util/LinkedList;" := hp_fl.of tyX17 rfl (by decide) in_X17 tyX17_ok (hp_ap.of nmX17) q1889 rfl rfl
theorem fl_X17_16_13 : hp_fl "RenamedWords$Script" 16 13 1 true "I" := hp_fl.of tyX17 rfl (by decide) in_X17 tyX17_ok (hp_ap.of nmX17) q1891 rfl rfl
theorem fl_X18_3_14 : hp_fl "RenamedWords$Deed" 3 14 0 true "LRenamedWords;" := hp_fl.of tyX19 rfl (by decide) in_X19 tyX19_ok (hp_ap.of nmX19) q1958 rfl rfl
theorem fl_X18_3_15 : hp_fl "RenamedWords$Deed" 3 15 0 true "LRenamedWords;" := hp_fl.of tyX20 rfl (by decide) in_X20 tyX20_ok (hp_ap.of nmX20) q1958 rfl rfl
theorem fl_X18_3_16 : hp_fl "RenamedWords$Deed" 3 16 0 true "LRenamedWords;" := hp_fl.of tyX21 rfl (by decide) in_X21 tyX21_ok (hp_ap.of nmX21) q1958 rfl rfl
theorem fl_X18_3_17 : hp_fl "RenamedWords$Deed" 3 17 0 true "LRenamedWords;" := hp_fl.of tyX22 rfl (by decide) in_X22 tyX22_ok (hp_ap.of nmX22) q1958 rfl rfl
theorem fl_X18_3_18 : hp_fl "RenamedWords$Deed" 3 18 0 true "LRenamedWords;" := hp_fl.of tyX23 rfl (by decide) in_X23 tyX23_ok (hp_ap.of nmX23) q1958 rfl rfl
theorem fl_X18_3_19 : hp_fl "RenamedWords$Deed" 3 19 0 true "LRenamedWords;" := hp_fl.of tyX24 rfl (by decide) in_X24 tyX24_ok (hp_ap.of nmX24) q1958 rfl rfl
theorem fl_X18_3_20 : hp_fl "RenamedWords$Deed" 3 20 0 true "LRenamedWords;" := hp_fl.of tyX25 rfl (by decide) in_X25 tyX25_ok (hp_ap.of nmX25) q1958 rfl rfl
theorem fl_X19_1_14 : hp_fl "RenamedWords$ScriptReader$1" 1 14 4 true "LRenamedWords$ScriptReader;" := hp_fl.of tyX19 rfl (by decide) in_X19 tyX19_ok (hp_ap.of nmX19) q1957 rfl rfl
theorem fl_X19_7_14 : hp_fl "RenamedWords$ScriptReader$1" 7 14 1 true "[I" := hp_fl.of tyX19 rfl (by decide) in_X19 tyX19_ok (hp_ap.of nmX19) q1954 rfl rfl
theorem fl_X19_11_14 : hp_fl "RenamedWords$ScriptReader$1" 11 14 2 true "Z" := hp_fl.of tyX19 rfl (by decide) in_X19 tyX19_ok (hp_ap.of nmX19) q1955 rfl rfl
theorem fl_X19_15_14 : hp_fl "RenamedWords$ScriptReader$1" 15 14 3 true "I" := hp_fl.of tyX19 rfl (by decide) in_X19 tyX19_ok (hp_ap.of nmX19) q1956 rfl rfl
theorem fl_X19_19_12 : hp_fl "RenamedWords$ScriptReader$1" 19 12 9 true "LRenamedWords;" := hp_fl.of tyX15 rfl (by decide) in_X15 tyX15_ok apX15 q1853 rfl rfl
theorem fl_X20_1_15 : hp_fl "RenamedWords$ScriptReader$2" 1 15 3 true "LRenamedWords$ScriptReader;" := hp_fl.of tyX20 rfl (by decide) in_X20 tyX20_ok (hp_ap.of nmX20) q1985 rfl rfl
theorem fl_X20_7_15 : hp_fl "RenamedWords$ScriptReader$2" 7 15 1 true "I" := hp_fl.of tyX20 rfl (by decide) in_X20 tyX20_ok (hp_ap.of nmX20) q1983 rfl rfl
theorem fl_X20_11_15 : hp_fl "RenamedWords$ScriptReader$2" 11 15 2 true "I" := hp_fl.of tyX20 rfl (by decide) in_X20 tyX20_ok (hp_ap.of nmX20) q1984 rfl rfl
theorem fl_X20_14_12 : hp_fl "RenamedWords$ScriptReader$2" 14 12 9 true "LRenamedWords;" := hp_fl.of tyX15 rfl (by decide) in_X15 tyX15_ok apX15 q1852 rfl rfl
theorem fl_X15_80_0 : hp_fl "RenamedWords$ScriptReader" 80 0 0 false "LRenamedWords$Desk;" := hp_fl.ofN tyX1 rfl (by decide) in_X1 tyX1_ok (hp_ap.of nmX1) q796 rfl rfl
theorem fl_X15_84_1 : hp_fl "RenamedWords$ScriptReader" 84 1 1 true "LRenamedWords$Names;" := hp_fl.ofN tyX2 rfl (by decide) in_X2 tyX2_ok (hp_ap.of nmX2) q710 rfl rfl
theorem fl_X21_1_16 : hp_fl "RenamedWords$ScriptReader$3" 1 16 2 true "LRenamedWords$ScriptReader;" := hp_fl.of tyX21 rfl (by decide) in_X21 tyX21_ok (hp_ap.of nmX21) q2013 rfl rfl
theorem fl_X21_7_16 : hp_fl "RenamedWords$ScriptReader$3" 7 16 1 true "I" := hp_fl.of tyX21 rfl (by decide) in_X21 tyX21_ok (hp_ap.of nmX21) q2012 rfl rfl
theorem fl_X21_11_12 : hp_fl "RenamedWords$ScriptReader$3" 11 12 9 true "LRenamedWords;" := hp_fl.of tyX15 rfl (by decide) in_X15 tyX15_ok apX15 q1849 rfl rfl
theorem fl_X22_1_17 : hp_fl "RenamedWords$ScriptReader$4" 1 17 2 true "LRenamedWords$ScriptReader;" := hp_fl.of tyX22 rfl (by decide) in_X22 tyX22_ok (hp_ap.of nmX22) q2031 rfl rfl
theorem fl_X22_7_17 : hp_fl "RenamedWords$ScriptReader$4" 7 17 1 true "I" := hp_fl.of tyX22 rfl (by decide) in_X22 tyX22_ok (hp_ap.of nmX22) q2030 rfl rfl
theorem fl_X22_11_12 : hp_fl "RenamedWords$ScriptReader$4" 11 12 9 true "LRenamedWords;" := hp_fl.of tyX15 rfl (by decide) in_X15 tyX15_ok apX15 q1850 rfl rfl
theorem fl_X23_1_18 : hp_fl "RenamedWords$ScriptReader$5" 1 18 4 true "LRenamedWords$ScriptReader;" := hp_fl.of tyX23 rfl (by decide) in_X23 tyX23_ok (hp_ap.of nmX23) q2051 rfl rfl
theorem fl_X23_7_18 : hp_fl "RenamedWords$ScriptReader$5" 7 18 1 true "I" := hp_fl.of tyX23 rfl (by decide) in_X23 tyX23_ok (hp_ap.of nmX23) q2048 rfl rfl
theorem fl_X23_11_18 : hp_fl "RenamedWords$ScriptReader$5" 11 18 2 true "I" := hp_fl.of tyX23 rfl (by decide) in_X23 tyX23_ok (hp_ap.of nmX23) q2049 rfl rfl
theorem fl_X23_14_18 : hp_fl "RenamedWords$ScriptReader$5" 14 18 3 true "[I" := hp_fl.of tyX23 rfl (by decide) in_X23 tyX23_ok (hp_ap.of nmX23) q2050 rfl rfl
theorem fl_X23_18_12 : hp_fl "RenamedWords$ScriptReader$5" 18 12 9 true "LRenamedWords;" := hp_fl.of tyX15 rfl (by decide) in_X15 tyX15_ok apX15 q1854 rfl rfl
theorem fl_X24_1_19 : hp_fl "RenamedWords$ScriptReader$6" 1 19 4 true "LRenamedWords$ScriptReader;" := hp_fl.of tyX24 rfl (by decide) in_X24 tyX24_ok (hp_ap.of nmX24) q2075 rfl rfl
theorem fl_X24_7_19 : hp_fl "RenamedWords$ScriptReader$6" 7 19 1 true "I" := hp_fl.of tyX24 rfl (by decide) in_X24 tyX24_ok (hp_ap.of nmX24) q2072 rfl rfl
theorem fl_X24_11_19 : hp_fl "RenamedWords$ScriptReader$6" 11 19 2 true "I" := hp_fl.of tyX24 rfl (by decide) in_X24 tyX24_ok (hp_ap.of nmX24) q2073 rfl rfl
theorem fl_X24_14_19 : hp_fl "RenamedWords$ScriptReader$6" 14 19 3 true "I" := hp_fl.of tyX24 rfl (by decide) in_X24 tyX24_ok (hp_ap.of nmX24) q2074 rfl rfl
theorem fl_X24_17_12 : hp_fl "RenamedWords$ScriptReader$6" 17 12 9 true "LRenamedWords;" := hp_fl.of tyX15 rfl (by decide) in_X15 tyX15_ok apX15 q1855 rfl rfl
theorem fl_X25_1_20 : hp_fl "RenamedWords$ScriptReader$7" 1 20 2 true "LRenamedWords$ScriptReader;" := hp_fl.of tyX25 rfl (by decide) in_X25 tyX25_ok (hp_ap.of nmX25) q2097 rfl rfl
theorem fl_X25_7_20 : hp_fl "RenamedWords$ScriptReader$7" 7 20 1 true "I" := hp_fl.of tyX25 rfl (by decide) in_X25 tyX25_ok (hp_ap.of nmX25) q2096 rfl rfl
theorem fl_X25_11_12 : hp_fl "RenamedWords$ScriptReader$7" 11 12 9 true "LRenamedWords;" := hp_fl.of tyX15 rfl (by decide) in_X15 tyX15_ok apX15 q1851 rfl rfl
theorem fl_X15_179_12 : hp_fl "RenamedWords$ScriptReader" 179 12 8 false "I" := hp_fl.of tyX15 rfl (by decide) in_X15 tyX15_ok apX15 q1847 rfl rfl
theorem fl_X15_111_12 : hp_fl "RenamedWords$ScriptReader" 111 12 7 false "I" := hp_fl.of tyX15 rfl (by decide) in_X15 tyX15_ok apX15 q1846 rfl rfl
theorem fl_J29_7_31 : hp_fl "java/util/LinkedList$Node" 7 31 0 false "Ljava/lang/Object;" := hp_fl.of tyJ29 rfl (by decide) in_J29 tyJ29_ok (hp_ap.of nmJ29) q1790 rfl rfl
theorem fl_J29_13_31 : hp_fl "java/util/LinkedList$Node" 13 31 1 false "Ljava/util/LinkedList$Node;" := hp_fl.of tyJ29 rfl (by decide) in_J29 tyJ29_ok (hp_ap.of nmJ29) q1793 rfl rfl
theorem fl_J29_17_31 : hp_fl "java/util/LinkedList$Node" 17 31 2 false "Ljava/util/LinkedList$Node;" := hp_fl.of tyJ29 rfl (by decide) in_J29 tyJ29_ok (hp_ap.of nmJ29) q1796 rfl rfl
theorem fl_X15_36_13 : hp_fl "RenamedWords$ScriptReader" 36 13 0 true "Ljava/util/LinkedList;" := hp_fl.ofN tyX17 rfl (by decide) in_X17 tyX17_ok (hp_ap.of nmX17) q1890 rfl rfl
theorem fl_X5_25_3 : hp_fl "RenamedWords$Text" 25 3 3 false "I" := hp_fl.of tyX5 rfl (by decide) in_X5 tyX5_ok (hp_ap.of nmX5) q637 rfl rfl
theorem fl_X6_7_4 : hp_fl "RenamedWords$Marks" 7 4 0 false "LRenamedWords$Mark;" := hp_fl.of tyX6 rfl (by decide) in_X6 tyX6_ok (hp_ap.of nmX6) q663 rfl rfl
theorem fl_X6_13_4 : hp_fl "RenamedWords$Marks" 13 4 1 false "LRenamedWords$Mark;" := hp_fl.of tyX6 rfl (by decide) in_X6 tyX6_ok (hp_ap.of nmX6) q664 rfl rfl
theorem fl_X6_21_4 : hp_fl "RenamedWords$Marks" 21 4 2 false "I" := hp_fl.of tyX6 rfl (by decide) in_X6 tyX6_ok (hp_ap.of nmX6) q666 rfl rfl
theorem fl_X26_1_21 : hp_fl "RenamedWords$Marks$1" 1 21 3 true "LRenamedWords$Marks;" := hp_fl.of tyX26 rfl (by decide) in_X26 tyX26_ok (hp_ap.of nmX26) q2160 rfl rfl
theorem fl_X26_13_4 : hp_fl "RenamedWords$Marks$1" 13 4 0 false "LRenamedWords$Mark;" := hp_fl.ofN tyX6 rfl (by decide) in_X6 tyX6_ok (hp_ap.of nmX6) q662 rfl rfl
theorem fl_X26_19_21 : hp_fl "RenamedWords$Marks$1" 19 21 2 false "LRenamedWords$Mark;" := hp_fl.of tyX26 rfl (by decide) in_X26 tyX26_ok (hp_ap.of nmX26) q2159 rfl rfl
theorem fl_X26_25_21 : hp_fl "RenamedWords$Marks$1" 25 21 1 false "LRenamedWords$Mark;" := hp_fl.of tyX26 rfl (by decide) in_X26 tyX26_ok (hp_ap.of nmX26) q2158 rfl rfl
theorem fl_X26_31_22 : hp_fl "RenamedWords$Marks$1" 31 22 2 false "LRenamedWords$Mark;" := hp_fl.ofN tyX27 rfl (by decide) in_X27 tyX27_ok (hp_ap.of nmX27) q2393 rfl rfl
theorem fl_X26_28_21 : hp_fl "RenamedWords$Marks$1" 28 21 0 false "LRenamedWords$Mark;" := hp_fl.of tyX26 rfl (by decide) in_X26 tyX26_ok (hp_ap.of nmX26) q2157 rfl rfl
theorem fl_X27_7_22 : hp_fl "RenamedWords$Mark" 7 22 0 true "I" := hp_fl.of tyX27 rfl (by decide) in_X27 tyX27_ok (hp_ap.of nmX27) q2384 rfl rfl
theorem fl_X27_13_22 : hp_fl "RenamedWords$Mark" 13 22 1 false "I" := hp_fl.of tyX27 rfl (by decide) in_X27 tyX27_ok (hp_ap.of nmX27) q2388 rfl rfl
theorem fl_X6_16_22 : hp_fl "RenamedWords$Marks" 16 22 2 false "LRenamedWords$Mark;" := hp_fl.ofN tyX27 rfl (by decide) in_X27 tyX27_ok (hp_ap.of nmX27) q2392 rfl rfl
theorem fl_X2_108_1 : hp_fl "RenamedWords$Desk" 108 1 7 false "I" := hp_fl.of tyX2 rfl (by decide) in_X2 tyX2_ok (hp_ap.of nmX2) q723 rfl rfl
theorem fl_X2_94_22 : hp_fl "RenamedWords$Desk" 94 22 0 true "I" := hp_fl.ofN tyX27 rfl (by decide) in_X27 tyX27_ok (hp_ap.of nmX27) q2385 rfl rfl
theorem fl_X2_98_22 : hp_fl "RenamedWords$Desk" 98 22 1 false "I" := hp_fl.ofN tyX27 rfl (by decide) in_X27 tyX27_ok (hp_ap.of nmX27) q2389 rfl rfl
theorem fl_J36_1_32 : hp_fl "java/util/LinkedList$ListItr" 1 32 4 true "Ljava/util/LinkedList;" := hp_fl.of tyJ36 rfl (by decide) in_J36 tyJ36_ok (hp_ap.of nmJ36) q2548 rfl rfl
theorem fl_J36_13_24 : hp_fl "java/util/LinkedList$ListItr" 13 24 0 false "I" := hp_fl.ofS tyJ4 rfl (by decide) in_J4 tyJ4_ok (hp_ap.of nmJ4) q596 q597 rfl rfl
theorem fl_J36_13_28 : hp_fl "java/util/LinkedList$ListItr" 13 28 0 false "I" := hp_fl.ofS tyJ21 rfl (by decide) in_J21 tyJ21_ok (hp_ap.of nmJ21) q596 q597 rfl rfl
theorem fl_J36_19_32 : hp_fl "java/util/LinkedList$ListItr" 19 32 3 false "I" := hp_fl.of tyJ36 rfl (by decide) in_J36 tyJ36_ok (hp_ap.of nmJ36) q2547 rfl rfl
theorem fl_J36_22_28 : hp_fl "java/util/LinkedList$ListItr" 22 28 1 false "I" := hp_fl.of tyJ21 rfl (by decide) in_J21 tyJ21_ok (hp_ap.of nmJ21) q759 rfl rfl
theorem fl_J36_29_32 : hp_fl "java/util/LinkedList$ListItr" 29 32 1 false "Ljava/util/LinkedList$Node;" := hp_fl.of tyJ36 rfl (by decide) in_J36 tyJ36_ok (hp_ap.of nmJ36) q2545 rfl rfl
theorem fl_J36_33_32 : hp_fl "java/util/LinkedList$ListItr" 33 32 2 false "I" := hp_fl.of tyJ36 rfl (by decide) in_J36 tyJ36_ok (hp_ap.of nmJ36) q2546 rfl rfl
theorem fl_J36_46_32 : hp_fl "java/util/LinkedList$ListItr" 46 32 0 false "Ljava/util/LinkedList$Node;" := hp_fl.of tyJ36 rfl (by decide) in_J36 tyJ36_ok (hp_ap.of nmJ36) q2544 rfl rfl
theorem fl_J36_49_31 : hp_fl "java/util/LinkedList$ListItr" 49 31 1 false "Ljava/util/LinkedList$Node;" := hp_fl.of tyJ29 rfl (by decide) in_J29 tyJ29_ok (hp_ap.of nmJ29) q1794 rfl rfl
theorem fl_J36_52_31 : hp_fl "java/util/LinkedList$ListItr" 52 31 0 false "Ljava/lang/Object;" := hp_fl.of tyJ29 rfl (by decide) in_J29 tyJ29_ok (hp_ap.of nmJ29) q1791 rfl rfl
theorem fl_X2_123_3 : hp_fl "RenamedWords$Desk" 123 3 3 false "I" := hp_fl.ofN tyX5 rfl (by decide) in_X5 tyX5_ok (hp_ap.of nmX5) q639 rfl rfl
theorem fl_X7_7_5 : hp_fl "RenamedWords$Window" 7 5 0 false "LRenamedWords$Row;" := hp_fl.of tyX7 rfl (by decide) in_X7 tyX7_ok (hp_ap.of nmX7) q683 rfl rfl
theorem fl_X7_13_5 : hp_fl "RenamedWords$Window" 13 5 1 false "I" := hp_fl.of tyX7 rfl (by decide) in_X7 tyX7_ok (hp_ap.of nmX7) q684 rfl rfl
theorem fl_X7_17_5 : hp_fl "RenamedWords$Window" 17 5 2 false "I" := hp_fl.of tyX7 rfl (by decide) in_X7 tyX7_ok (hp_ap.of nmX7) q685 rfl rfl
theorem fl_X6_43_22 : hp_fl "RenamedWords$Marks" 43 22 0 true "I" := hp_fl.ofN tyX27 rfl (by decide) in_X27 tyX27_ok (hp_ap.of nmX27) q2386 rfl rfl
theorem fl_X6_46_22 : hp_fl "RenamedWords$Marks" 46 22 1 false "I" := hp_fl.ofN tyX27 rfl (by decide) in_X27 tyX27_ok (hp_ap.of nmX27) q2390 rfl rfl
theorem fl_X26_40_4 : hp_fl "RenamedWords$Marks$1" 40 4 2 false "I" := hp_fl.ofN tyX6 rfl (by decide) in_X6 tyX6_ok (hp_ap.of nmX6) q667 rfl rfl
theorem fl_X26_37_4 : hp_fl "RenamedWords$Marks$1" 37 4 1 false "LRenamedWords$Mark;" := hp_fl.ofN tyX6 rfl (by decide) in_X6 tyX6_ok (hp_ap.of nmX6) q665 rfl rfl
theorem fl_X19_31_0 : hp_fl "RenamedWords$ScriptReader$1" 31 0 0 false "LRenamedWords$Desk;" := hp_fl.ofN tyX1 rfl (by decide) in_X1 tyX1_ok (hp_ap.of nmX1) q795 rfl rfl
theorem fl_X20_26_0 : hp_fl "RenamedWords$ScriptReader$2" 26 0 0 false "LRenamedWords$Desk;" := hp_fl.ofN tyX1 rfl (by decide) in_X1 tyX1_ok (hp_ap.of nmX1) q794 rfl rfl
theorem fl_X2_206_4 : hp_fl "RenamedWords$Desk" 206 4 2 false "I" := hp_fl.ofN tyX6 rfl (by decide) in_X6 tyX6_ok (hp_ap.of nmX6) q668 rfl rfl
theorem fl_X21_23_0 : hp_fl "RenamedWords$ScriptReader$3" 23 0 0 false "LRenamedWords$Desk;" := hp_fl.ofN tyX1 rfl (by decide) in_X1 tyX1_ok (hp_ap.of nmX1) q789 rfl rfl
theorem fl_X22_23_0 : hp_fl "RenamedWords$ScriptReader$4" 23 0 0 false "LRenamedWords$Desk;" := hp_fl.ofN tyX1 rfl (by decide) in_X1 tyX1_ok (hp_ap.of nmX1) q790 rfl rfl
theorem fl_X23_30_0 : hp_fl "RenamedWords$ScriptReader$5" 30 0 0 false "LRenamedWords$Desk;" := hp_fl.ofN tyX1 rfl (by decide) in_X1 tyX1_ok (hp_ap.of nmX1) q791 rfl rfl
theorem fl_X2_225_3 : hp_fl "RenamedWords$Desk" 225 3 0 true "[I" := hp_fl.ofN tyX5 rfl (by decide) in_X5 tyX5_ok (hp_ap.of nmX5) q634 rfl rfl
theorem fl_X24_29_0 : hp_fl "RenamedWords$ScriptReader$6" 29 0 0 false "LRenamedWords$Desk;" := hp_fl.ofN tyX1 rfl (by decide) in_X1 tyX1_ok (hp_ap.of nmX1) q792 rfl rfl
theorem fl_X25_23_0 : hp_fl "RenamedWords$ScriptReader$7" 23 0 0 false "LRenamedWords$Desk;" := hp_fl.ofN tyX1 rfl (by decide) in_X1 tyX1_ok (hp_ap.of nmX1) q793 rfl rfl
theorem fl_X18_19_0 : hp_fl "RenamedWords$Deed" 19 0 7 false "I" := hp_fl.ofN tyX1 rfl (by decide) in_X1 tyX1_ok (hp_ap.of nmX1) q806 rfl rfl
theorem fl_X1_175_0 : hp_fl "RenamedWords" 175 0 7 false "I" := hp_fl.of tyX1 rfl (by decide) in_X1 tyX1_ok (hp_ap.of nmX1) q807 rfl rfl
theorem fl_X9_286_7 : hp_fl "RenamedWordsModel" 286 7 29 false "I" := hp_fl.of tyX9 rfl (by decide) in_X9 tyX9_ok (hp_ap.of nmX9) q3473 rfl rfl
theorem fl_X9_298_7 : hp_fl "RenamedWordsModel" 298 7 30 false "I" := hp_fl.of tyX9 rfl (by decide) in_X9 tyX9_ok (hp_ap.of nmX9) q3474 rfl rfl
theorem fl_X9_310_7 : hp_fl "RenamedWordsModel" 310 7 31 false "I" := hp_fl.of tyX9 rfl (by decide) in_X9 tyX9_ok (hp_ap.of nmX9) q3475 rfl rfl
theorem fl_X1_189_1 : hp_fl "RenamedWords" 189 1 7 false "I" := hp_fl.ofN tyX2 rfl (by decide) in_X2 tyX2_ok (hp_ap.of nmX2) q725 rfl rfl
theorem fl_X1_196_1 : hp_fl "RenamedWords" 196 1 3 true "LRenamedWords$Marks;" := hp_fl.ofN tyX2 rfl (by decide) in_X2 tyX2_ok (hp_ap.of nmX2) q717 rfl rfl
theorem fl_X1_200_4 : hp_fl "RenamedWords" 200 4 2 false "I" := hp_fl.ofN tyX6 rfl (by decide) in_X6 tyX6_ok (hp_ap.of nmX6) q669 rfl rfl
theorem fl_X1_233_1 : hp_fl "RenamedWords" 233 1 5 true "LRenamedWords$Window;" := hp_fl.ofN tyX2 rfl (by decide) in_X2 tyX2_ok (hp_ap.of nmX2) q721 rfl rfl
theorem fl_X1_243_1 : hp_fl "RenamedWords" 243 1 2 true "[LRenamedWords$Word;" := hp_fl.ofN tyX2 rfl (by decide) in_X2 tyX2_ok (hp_ap.of nmX2) q715 rfl rfl
theorem fl_J40_11_33 : hp_fl "java/util/BitSet" 11 33 0 false "[J" := hp_fl.of tyJ40 rfl (by decide) in_J40 tyJ40_ok (hp_ap.of nmJ40) q2864 rfl rfl
theorem fl_J40_7_33 : hp_fl "java/util/BitSet" 7 33 1 false "I" := hp_fl.of tyJ40 rfl (by decide) in_J40 tyJ40_ok (hp_ap.of nmJ40) q2865 rfl rfl
theorem fl_J40_24_33 : hp_fl "java/util/BitSet" 24 33 2 false "Z" := hp_fl.of tyJ40 rfl (by decide) in_J40 tyJ40_ok (hp_ap.of nmJ40) q2866 rfl rfl
theorem fl_X1_276_1 : hp_fl "RenamedWords" 276 1 1 true "LRenamedWords$Names;" := hp_fl.ofN tyX2 rfl (by decide) in_X2 tyX2_ok (hp_ap.of nmX2) q712 rfl rfl
theorem fl_X1_280_2 : hp_fl "RenamedWords" 280 2 1 true "Ljava/util/List;" := hp_fl.ofN tyX3 rfl (by decide) in_X3 tyX3_ok (hp_ap.of nmX3) q613 rfl rfl
theorem fl_X1_301_22 : hp_fl "RenamedWords" 301 22 1 false "I" := hp_fl.ofN tyX27 rfl (by decide) in_X27 tyX27_ok (hp_ap.of nmX27) q2391 rfl rfl
theorem fl_X1_306_22 : hp_fl "RenamedWords" 306 22 0 true "I" := hp_fl.ofN tyX27 rfl (by decide) in_X27 tyX27_ok (hp_ap.of nmX27) q2387 rfl rfl
theorem fl_X1_311_1 : hp_fl "RenamedWords" 311 1 4 true "[I" := hp_fl.ofN tyX2 rfl (by decide) in_X2 tyX2_ok (hp_ap.of nmX2) q719 rfl rfl
theorem fl_X9_433_7 : hp_fl "RenamedWordsModel" 433 7 33 false "I" := hp_fl.of tyX9 rfl (by decide) in_X9 tyX9_ok (hp_ap.of nmX9) q3477 rfl rfl
