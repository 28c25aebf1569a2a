/-! STAGE 1b: facts of fields, classes (printed by gen/mkfuncs.py). -/
set_option maxRecDepth 100000
theorem apX11 : hp_ap TX11 10 := by unfold hp_ap; decide +kernel
theorem apX15 : hp_ap TX15 10 := by unfold hp_ap; decide +kernel
theorem ao_RenamedWords_Desk : "RenamedWords$Desk" ∈ hp_aos := by decide
theorem ao_RenamedWords_Word : "RenamedWords$Word" ∈ hp_aos := by decide
theorem ao_java_lang_Object : "java/lang/Object" ∈ hp_aos := by decide
theorem ao_java_util_HashMap_Node : "java/util/HashMap$Node" ∈ hp_aos := by decide
theorem nh_J4 : RJ4 ≠ "java/lang/invoke/MethodHandle" ∧ RJ4 ≠ "java/lang/invoke/VarHandle" := by decide +kernel
theorem nh_X1 : RX1 ≠ "java/lang/invoke/MethodHandle" ∧ RX1 ≠ "java/lang/invoke/VarHandle" := by decide +kernel
theorem nh_X14 : RX14 ≠ "java/lang/invoke/MethodHandle" ∧ RX14 ≠ "java/lang/invoke/VarHandle" := by decide +kernel
theorem nh_X2 : RX2 ≠ "java/lang/invoke/MethodHandle" ∧ RX2 ≠ "java/lang/invoke/VarHandle" := by decide +kernel
theorem nh_X4 : RX4 ≠ "java/lang/invoke/MethodHandle" ∧ RX4 ≠ "java/lang/invoke/VarHandle" := by decide +kernel
theorem nh_X5 : RX5 ≠ "java/lang/invoke/MethodHandle" ∧ RX5 ≠ "java/lang/invoke/VarHandle" := by decide +kernel
theorem nh_X7 : RX7 ≠ "java/lang/invoke/MethodHandle" ∧ RX7 ≠ "java/lang/invoke/VarHandle" := by decide +kernel
theorem nh_xjava_util_List : "java/util/List" ≠ "java/lang/invoke/MethodHandle" ∧ "java/util/List" ≠ "java/lang/invoke/VarHandle" := by decide +kernel
theorem nx_of {ws : List Cond} (ps : List Nat) (e : ws = ps.filterMap (fun i => lw_tbl[i]?)) (g : ws.all (fun w => goodWord w || hp_ngk w) = true) : ∀ w ∈ ws, w ∈ lw_tbl ∧ (goodWord w || hp_ngk w) = true := by
  intro w hw
  refine ⟨?_, List.all_eq_true.mp g w hw⟩
  rw [e] at hw
  obtain ⟨i, -, hi⟩ := List.mem_filterMap.mp hw
  exact List.mem_of_getElem? hi
theorem nx_X1_index_4 : ∀ w ∈ vx_at0 "RenamedWords" 117 "java/lang/IndexOutOfBoundsException" ["java/lang/RuntimeException", "java/lang/Exception"], w ∈ lw_tbl ∧ (goodWord w || hp_ngk w) = true := nx_of [140, 295, 304, 312, 315, 317, 296, 297, 212, 213, 298, 303, 313, 553, 285, 554, 287, 555, 289, 299, 301, 291, 3071, 3072, 3073, 2229, 276, 2229, 2230, 2231, 2232, 278, 2232, 2233, 2234, 296, 280, 3070, 2273, 2274, 2275, 309, 2276, 2277, 2278, 2279, 551, 293, 2280] (by decide +kernel) (by decide +kernel)
theorem fl_J4_48_24 : hp_fl "java/util/ArrayList" 48 24 2 false "I" := hp_fl.of tyJ4 rfl (by decide) in_J4 tyJ4_ok (hp_ap.of nmJ4) q594 rfl rfl
theorem fl_X2_55_1 : hp_fl "RenamedWords$Desk" 55 1 1 true "LRenamedWords$Names;" := hp_fl.of tyX2 rfl (by decide) in_X2 tyX2_ok (hp_ap.of nmX2) q709 rfl rfl
theorem fl_X2_111_2 : hp_fl "RenamedWords$Desk" 111 2 1 true "Ljava/util/List;" := hp_fl.ofN tyX3 rfl (by decide) in_X3 tyX3_ok (hp_ap.of nmX3) q612 rfl rfl
theorem fl_X1_35_0 : hp_fl "RenamedWords" 35 0 0 false "LRenamedWords$Desk;" := hp_fl.of tyX1 rfl (by decide) in_X1 tyX1_ok (hp_ap.of nmX1) q797 rfl rfl
theorem fl_X1_243_1 : hp_fl "RenamedWords" 243 1 2 true "[LRenamedWords$Word;" := hp_fl.ofN tyX2 rfl (by decide) in_X2 tyX2_ok (hp_ap.of nmX2) q715 rfl rfl
theorem fl_X2_12_1 : hp_fl "RenamedWords$Desk" 12 1 0 true "LRenamedWords$Text;" := hp_fl.of tyX2 rfl (by decide) in_X2 tyX2_ok (hp_ap.of nmX2) q706 rfl rfl
theorem fl_X2_123_3 : hp_fl "RenamedWords$Desk" 123 3 3 false "I" := hp_fl.ofN tyX5 rfl (by decide) in_X5 tyX5_ok (hp_ap.of nmX5) q639 rfl rfl
theorem fl_X14_9_11 : hp_fl "RenamedWords$Word" 9 11 0 true "[I" := hp_fl.of tyX14 rfl (by decide) in_X14 tyX14_ok (hp_ap.of nmX14) q1567 rfl rfl
theorem fl_X7_7_5 : hp_fl "RenamedWords$Window" 7 5 0 false "LRenamedWords$Row;" := hp_fl.of tyX7 rfl (by decide) in_X7 tyX7_ok (hp_ap.of nmX7) q683 rfl rfl
theorem fl_X7_13_5 : hp_fl "RenamedWords$Window" 13 5 1 false "I" := hp_fl.of tyX7 rfl (by decide) in_X7 tyX7_ok (hp_ap.of nmX7) q684 rfl rfl
theorem fl_X7_17_5 : hp_fl "RenamedWords$Window" 17 5 2 false "I" := hp_fl.of tyX7 rfl (by decide) in_X7 tyX7_ok (hp_ap.of nmX7) q685 rfl rfl
theorem fl_X5_25_3 : hp_fl "RenamedWords$Text" 25 3 3 false "I" := hp_fl.of tyX5 rfl (by decide) in_X5 tyX5_ok (hp_ap.of nmX5) q637 rfl rfl
theorem fl_X5_9_3 : hp_fl "RenamedWords$Text" 9 3 0 true "[I" := hp_fl.of tyX5 rfl (by decide) in_X5 tyX5_ok (hp_ap.of nmX5) q632 rfl rfl
theorem fl_X5_21_3 : hp_fl "RenamedWords$Text" 21 3 4 false "I" := hp_fl.of tyX5 rfl (by decide) in_X5 tyX5_ok (hp_ap.of nmX5) q641 rfl rfl
theorem fl_X5_15_3 : hp_fl "RenamedWords$Text" 15 3 1 true "[I" := hp_fl.of tyX5 rfl (by decide) in_X5 tyX5_ok (hp_ap.of nmX5) q635 rfl rfl
theorem fl_X5_18_3 : hp_fl "RenamedWords$Text" 18 3 2 true "[I" := hp_fl.of tyX5 rfl (by decide) in_X5 tyX5_ok (hp_ap.of nmX5) q636 rfl rfl
theorem fl_X2_20_1 : hp_fl "RenamedWords$Desk" 20 1 2 true "[LRenamedWords$Word;" := hp_fl.of tyX2 rfl (by decide) in_X2 tyX2_ok (hp_ap.of nmX2) q713 rfl rfl
theorem fl_X2_38_1 : hp_fl "RenamedWords$Desk" 38 1 5 true "LRenamedWords$Window;" := hp_fl.of tyX2 rfl (by decide) in_X2 tyX2_ok (hp_ap.of nmX2) q720 rfl rfl
theorem fl_X2_108_1 : hp_fl "RenamedWords$Desk" 108 1 7 false "I" := hp_fl.of tyX2 rfl (by decide) in_X2 tyX2_ok (hp_ap.of nmX2) q723 rfl rfl
