/-! STAGE 1c: functions and contracts (printed by gen/mkfuncs.py). -/
set_option maxRecDepth 100000
set_option linter.unusedVariables false
-- X2_patternMany RenamedWords$Desk.patternMany()I
noncomputable def f_X2_patternMany (a0 : Nat) (h : HP) : Option ((Int) × HP) :=
  (rdR h (some a0) [1] 1).bind fun v1 =>
  (rdR h v1 [2] 1).bind fun v2 =>
  (rcv h v2 [24]).bind fun b5 =>
  hb (f_J4_size b5 h) fun v3 h4 =>
  some (v3, h4)
theorem A_X2_patternMany {M : hp_M} {G : va_G} {h0 : HP} (X : hp_X M G h0 "RenamedWords$Desk" "patternMany" cX2_patternMany 1 (some .int) [] 1 28) (a0 : Nat) (h : HP) : vv M G h0 1 (hp_End M G h0) jI h 0 [(0, LR (some a0))] [] (f_X2_patternMany a0 h) := by
  unfold f_X2_patternMany
  refine vv_aload_n (pc := 0) X (kf := 0) (i := 0) rfl 0 rfl dX2_patternMany_0 ?_
  refine vv_getR (pc := 1) X (fun _ z => by cases List.mem_singleton.mp z; exact fl_X2_55_1) dX2_patternMany_1 (fun v1 => ?_)
  refine vv_getR (pc := 4) X (fun _ z => by cases List.mem_singleton.mp z; exact fl_X2_111_2) dX2_patternMany_4 (fun v2 => ?_)
  refine vv_rcv (fun b5 t9 c9 fs9 e6 g9 k9 => ?_)
  cases List.mem_singleton.mp k9
  refine vv_callI (pc := 7) (rest := []) (by rw [e6]; rfl) (fun r8 k8 e8 => zz_callF X (m_J4_size (hlM X) _ _ _ _ e8) g9 rfl q1118 (List.mem_of_getElem? (i := 2) rfl) q1124 q1122 q139 q1126 nh_xjava_util_List rfl (by decide) (by decide) (Nat.le_of_ble_eq_true rfl) dX2_patternMany_7) (fun v3 h4 => ?_)
  exact vv_iretI X rfl rfl dX2_patternMany_12
theorem m_X2_patternMany {l : Launch} (hl : l.stackTraces = false) {G : va_G} (a0 : Nat) (h : HP) : ∀ r hf, f_X2_patternMany a0 h = some (r, hf) → Ct l yX2_patternMany (ws_ yX2_patternMany cX2_patternMany 1 (some .int)) 1 28 G h [.ref a0] (jI r) hf :=
  zz_ofW hl (by decide +kernel) (lv := [(0, LR (some a0))]) (by simp [lv_args, lvL, lvV, zz_rfc, va_cat1, Value.category]) (by simp [lg_sl, zz_rfc, va_cat1, Value.category]) (fun _ X => A_X2_patternMany X a0 h)
-- X1_in RenamedWords.in(JJJ)Z
noncomputable def b_X1_in_18 (s0 : Int) (h : HP) : Option ((Int) × HP) :=
  rtZ s0 (some (s0, h))
theorem B_X1_in_18 {M : hp_M} {G : va_G} {h0 : HP} (X : hp_X M G h0 "RenamedWords" "in" cX1_in 6 (some .boolean) [] 0 0) (s0 : Int) (h : HP) : vv M G h0 6 (hp_End M G h0) jI h 18 [] [LI s0] (b_X1_in_18 s0 h) := by
  unfold b_X1_in_18
  exact vv_iretZ X rfl rfl dX1_in_18
noncomputable def b_X1_in_17 (h : HP) : Option ((Int) × HP) :=
  b_X1_in_18 0 h
theorem B_X1_in_17 {M : hp_M} {G : va_G} {h0 : HP} (X : hp_X M G h0 "RenamedWords" "in" cX1_in 6 (some .boolean) [] 0 0) (h : HP) : vv M G h0 6 (hp_End M G h0) jI h 17 [] [] (b_X1_in_17 h) := by
  unfold b_X1_in_17
  refine vv_iconst (pc := 17) X dX1_in_17 ?_
  exact B_X1_in_18 X _ _
noncomputable def f_X1_in (a1 : Int64) (a2 : Int64) (a3 : Int64) (h : HP) : Option ((Int) × HP) :=
  iLT (lCmp a1 a2) 0
    (b_X1_in_17 h)
    (iLT 0 (lCmp a1 a3)
      (b_X1_in_17 h)
      (b_X1_in_18 1 h))
theorem A_X1_in {M : hp_M} {G : va_G} {h0 : HP} (X : hp_X M G h0 "RenamedWords" "in" cX1_in 6 (some .boolean) [] 0 0) (a1 : Int64) (a2 : Int64) (a3 : Int64) (h : HP) : vv M G h0 6 (hp_End M G h0) jI h 0 [(0, LJ a1), (2, LJ a2), (4, LJ a3)] [] (f_X1_in a1 a2 a3 h) := by
  unfold f_X1_in
  refine vv_lload_n (pc := 0) X (kf := 0) (i := 0) rfl 0 rfl dX1_in_0 ?_
  refine vv_lload_n (pc := 1) X (kf := 2) (i := 2) rfl 1 rfl dX1_in_1 ?_
  refine vv_lcmp (pc := 2) X dX1_in_2 ?_
  refine vv_if_lt (pc := 3) (tgt := 17) X dX1_in_3 rfl ?_ ?_
  · exact vv_sub [] (by rfl) (B_X1_in_17 X _)
  · refine vv_lload_n (pc := 6) X (kf := 0) (i := 0) rfl 0 rfl dX1_in_6 ?_
    refine vv_lload (pc := 7) X 2 rfl dX1_in_7 ?_
    refine vv_lcmp (pc := 9) X dX1_in_9 ?_
    refine vv_if_gt (pc := 10) (tgt := 17) X dX1_in_10 rfl ?_ ?_
    · exact vv_sub [] (by rfl) (B_X1_in_17 X _)
    · refine vv_iconst (pc := 13) X dX1_in_13 ?_
      refine vv_goto (pc := 14) (tgt := 18) X dX1_in_14 rfl ?_
      exact vv_sub [] (by rfl) (B_X1_in_18 X _ _)
theorem m_X1_in {l : Launch} (hl : l.stackTraces = false) {G : va_G} (a1 : Int64) (a2 : Int64) (a3 : Int64) (h : HP) : ∀ r hf, f_X1_in a1 a2 a3 h = some (r, hf) → Ct l yX1_in (ws_ yX1_in cX1_in 6 (some .boolean)) 0 0 G h [.long a1, .long a2, .long a3] (jI r) hf :=
  zz_ofW hl (by decide +kernel) (lv := [(0, LJ a1), (2, LJ a2), (4, LJ a3)]) (by simp [lv_args, lvL, lvV, zz_rfc, va_cat1, Value.category]) (by simp [lg_sl, zz_rfc, va_cat1, Value.category]) (fun _ X => A_X1_in X a1 a2 a3 h)
-- X1_index RenamedWords.index(Z)V
noncomputable def f_X1_index (a1 : Int) (h : HP) : Option ((Nat ⊕ Unit) × HP) :=
  iEQ a1 0
    (hb (nwX h 0 35) fun v1 h2 =>
    (v1).bind fun q3 =>
    some (.inl q3, h2))
    (some (.inr (), h))
theorem A_X1_index {M : hp_M} {G : va_G} {h0 : HP} (X : hp_X M G h0 "RenamedWords" "index" cX1_index 1 none [] 6 97) (a1 : Int) (h : HP) : vv M G h0 1 (hp_End M G h0) xV h 0 [(0, LI a1)] [] (f_X1_index a1 h) := by
  unfold f_X1_index
  refine vv_iload_n (pc := 0) X (kf := 0) (i := 0) rfl 0 rfl dX1_index_0 ?_
  refine vv_if_ne (pc := 1) (tgt := 12) X dX1_index_1 rfl ?_ ?_
  · exact vv_vreturn X rfl rfl dX1_index_12
  · refine vv_newX (pc := 4) (cls := "java/lang/IndexOutOfBoundsException") (names := ["java/lang/RuntimeException", "java/lang/Exception"]) X (by decide +kernel) (by decide +kernel) q3069 q194 nx_X1_index_4 (by decide +kernel) dX1_index_4 dX1_index_7 dX1_index_8 rfl (by decide) (by decide) (Nat.le_of_ble_eq_true rfl) (fun v1 h2 => ?_)
    refine vv_athrow (pc := 11) X dX1_index_11 (fun q3 _ => ?_)
    exact vvx_out X (by decide) rfl
theorem m_X1_index {l : Launch} (hl : l.stackTraces = false) {G : va_G} (a1 : Int) (h : HP) : ∀ r hf, f_X1_index a1 h = some (r, hf) → Ct l yX1_index (ws_ yX1_index cX1_index 1 none) 6 97 G h [.int (iI a1)] (xV r) hf :=
  zz_ofW hl (by decide +kernel) (lv := [(0, LI a1)]) (by simp [lv_args, lvL, lvV, zz_rfc, va_cat1, Value.category]) (by simp [lg_sl, zz_rfc, va_cat1, Value.category]) (fun _ X => A_X1_index X a1 h)
-- X1_patternAt RenamedWords.patternAt(I)LRenamedWords$Word;
noncomputable def f_X1_patternAt (a0 : Nat) (a1 : Int) (h : HP) : Option ((Nat ⊕ Option Nat) × HP) :=
  (rdR h (some a0) [0] 0).bind fun v1 =>
  (rcv h v1 [1]).bind fun b4 =>
  hb (f_X2_patternMany b4 h) fun v2 h3 =>
  hb (f_X1_in (iL a1) 0 (iL (v2 - 1)) h3) fun v6 h7 =>
  hbx (f_X1_index v6 h7) (fun q10 h11 =>
      some (.inl q10, h11)) fun _ h9 =>
  (rdR h9 (some a0) [0] 0).bind fun v12 =>
  (rdR h9 v12 [1] 2).bind fun v13 =>
  (aldR h9 "RenamedWords$Word" v13 a1).bind fun v14 =>
  some (.inr v14, h9)
theorem A_X1_patternAt {M : hp_M} {G : va_G} {h0 : HP} (X : hp_X M G h0 "RenamedWords" "patternAt" cX1_patternAt 2 (some (.object "RenamedWords$Word")) [] 7 125) (a0 : Nat) (a1 : Int) (h : HP) : vv M G h0 2 (hp_End M G h0) xR h 0 [(0, LR (some a0)), (1, LI a1)] [] (f_X1_patternAt a0 a1 h) := by
  unfold f_X1_patternAt
  refine vv_iload_n (pc := 0) X (kf := 1) (i := 1) rfl 1 rfl dX1_patternAt_0 ?_
  refine vv_i2l (pc := 1) X dX1_patternAt_1 ?_
  refine vv_lconst (pc := 2) (v := 0) X (by decide) dX1_patternAt_2 ?_
  refine vv_aload_n (pc := 3) X (kf := 0) (i := 0) rfl 0 rfl dX1_patternAt_3 ?_
  refine vv_getR (pc := 4) X (fun _ z => by cases List.mem_singleton.mp z; exact fl_X1_35_0) dX1_patternAt_4 (fun v1 => ?_)
  refine vv_rcv (fun b4 t9 c9 fs9 e5 g9 k9 => ?_)
  cases List.mem_singleton.mp k9
  refine vv_callI (pc := 7) (rest := [LJ 0, LJ (iL a1)]) (by rw [e5]; rfl) (fun r8 k8 e8 => zz_callV X (m_X2_patternMany (hlM X) _ _ _ _ e8) g9 rfl rfl q3018 q1114 q1115 q133 q1116 nh_X2 rfl (by decide) (by decide) (Nat.le_of_ble_eq_true rfl) dX1_patternAt_7) (fun v2 h3 => ?_)
  refine vv_iconst (pc := 10) X dX1_patternAt_10 ?_
  refine vv_isub (pc := 11) X dX1_patternAt_11 ?_
  refine vv_i2l (pc := 12) X dX1_patternAt_12 ?_
  refine vv_callI (pc := 13) (rest := []) (by rfl) (fun r8 k8 e8 => zz_callS X (m_X1_in (hlM X) _ _ _ _ _ _ e8) q2984 q873 q132 q874 nh_X1 rfl (by decide) (by decide) (Nat.le_of_ble_eq_true rfl) dX1_patternAt_13) (fun v6 h7 => ?_)
  refine vv_xallV (pc := 16) (rest := []) (by rfl) (fun r8 k8 e8 => zz_callS X (m_X1_index (hlM X) _ _ _ _ e8) q3066 q3067 q132 q3068 nh_X1 rfl (by decide) (by decide) (Nat.le_of_ble_eq_true rfl) dX1_patternAt_16) (fun v8 h9 => ?_) (fun q10 h11 => ?_)
  · refine vv_aload_n (pc := 19) X (kf := 0) (i := 0) rfl 0 rfl dX1_patternAt_19 ?_
    refine vv_getR (pc := 20) X (fun _ z => by cases List.mem_singleton.mp z; exact fl_X1_35_0) dX1_patternAt_20 (fun v12 => ?_)
    refine vv_getR (pc := 23) X (fun _ z => by cases List.mem_singleton.mp z; exact fl_X1_243_1) dX1_patternAt_23 (fun v13 => ?_)
    refine vv_iload_n (pc := 26) X (kf := 1) (i := 1) rfl 1 rfl dX1_patternAt_26 ?_
    refine vv_aaload (pc := 27) X dX1_patternAt_27 (fun v14 => ?_)
    exact vv_aretO X rfl rfl dX1_patternAt_28
  · exact vvx_out X (by decide) rfl
theorem m_X1_patternAt {l : Launch} (hl : l.stackTraces = false) {G : va_G} (a0 : Nat) (a1 : Int) (h : HP) : ∀ r hf, f_X1_patternAt a0 a1 h = some (r, hf) → Ct l yX1_patternAt (ws_ yX1_patternAt cX1_patternAt 2 (some (.object "RenamedWords$Word"))) 7 125 G h [.ref a0, .int (iI a1)] (xR r) hf :=
  zz_ofW hl (by decide +kernel) (lv := [(0, LR (some a0)), (1, LI a1)]) (by simp [lv_args, lvL, lvV, zz_rfc, va_cat1, Value.category]) (by simp [lg_sl, zz_rfc, va_cat1, Value.category]) (fun _ X => A_X1_patternAt X a0 a1 h)
-- X2_isPlace RenamedWords$Desk.isPlace(I)Z
noncomputable def f_X2_isPlace (a0 : Nat) (a1 : Int) (h : HP) : Option ((Int) × HP) :=
  (rdR h (some a0) [1] 0).bind fun v1 =>
  (rdI h v1 [3] 3).bind fun v2 =>
  hb (f_X1_in (iL a1) 0 (iL (v2 - 1)) h) fun v3 h4 =>
  rtZ v3 (some (v3, h4))
theorem A_X2_isPlace {M : hp_M} {G : va_G} {h0 : HP} (X : hp_X M G h0 "RenamedWords$Desk" "isPlace" cX2_isPlace 2 (some .boolean) [] 1 33) (a0 : Nat) (a1 : Int) (h : HP) : vv M G h0 2 (hp_End M G h0) jI h 0 [(0, LR (some a0)), (1, LI a1)] [] (f_X2_isPlace a0 a1 h) := by
  unfold f_X2_isPlace
  refine vv_iload_n (pc := 0) X (kf := 1) (i := 1) rfl 1 rfl dX2_isPlace_0 ?_
  refine vv_i2l (pc := 1) X dX2_isPlace_1 ?_
  refine vv_lconst (pc := 2) (v := 0) X (by decide) dX2_isPlace_2 ?_
  refine vv_aload_n (pc := 3) X (kf := 0) (i := 0) rfl 0 rfl dX2_isPlace_3 ?_
  refine vv_getR (pc := 4) X (fun _ z => by cases List.mem_singleton.mp z; exact fl_X2_12_1) dX2_isPlace_4 (fun v1 => ?_)
  refine vv_getI (pc := 7) X (fun _ z => by cases List.mem_singleton.mp z; exact fl_X2_123_3) dX2_isPlace_7 (fun v2 => ?_)
  refine vv_iconst (pc := 10) X dX2_isPlace_10 ?_
  refine vv_isub (pc := 11) X dX2_isPlace_11 ?_
  refine vv_i2l (pc := 12) X dX2_isPlace_12 ?_
  refine vv_callI (pc := 13) (rest := []) (by rfl) (fun r8 k8 e8 => zz_callSN X (m_X1_in (hlM X) _ _ _ _ _ _ e8) q2587 q873 q132 q874 nh_X1 rfl (by decide) (by decide) (Nat.le_of_ble_eq_true rfl) dX2_isPlace_13) (fun v3 h4 => ?_)
  exact vv_iretZ X rfl rfl dX2_isPlace_16
theorem m_X2_isPlace {l : Launch} (hl : l.stackTraces = false) {G : va_G} (a0 : Nat) (a1 : Int) (h : HP) : ∀ r hf, f_X2_isPlace a0 a1 h = some (r, hf) → Ct l yX2_isPlace (ws_ yX2_isPlace cX2_isPlace 2 (some .boolean)) 1 33 G h [.ref a0, .int (iI a1)] (jI r) hf :=
  zz_ofW hl (by decide +kernel) (lv := [(0, LR (some a0)), (1, LI a1)]) (by simp [lv_args, lvL, lvV, zz_rfc, va_cat1, Value.category]) (by simp [lg_sl, zz_rfc, va_cat1, Value.category]) (fun _ X => A_X2_isPlace X a0 a1 h)
-- X1_placeAt RenamedWords.placeAt(I)V
noncomputable def f_X1_placeAt (a0 : Nat) (a1 : Int) (h : HP) : Option ((Nat ⊕ Unit) × HP) :=
  (rdR h (some a0) [0] 0).bind fun v1 =>
  (rcv h v1 [1]).bind fun b4 =>
  hb (f_X2_isPlace b4 a1 h) fun v2 h3 =>
  hbx (f_X1_index v2 h3) (fun q8 h9 =>
      some (.inl q8, h9)) fun _ h7 =>
  some (.inr (), h7)
theorem A_X1_placeAt {M : hp_M} {G : va_G} {h0 : HP} (X : hp_X M G h0 "RenamedWords" "placeAt" cX1_placeAt 2 none [] 7 125) (a0 : Nat) (a1 : Int) (h : HP) : vv M G h0 2 (hp_End M G h0) xV h 0 [(0, LR (some a0)), (1, LI a1)] [] (f_X1_placeAt a0 a1 h) := by
  unfold f_X1_placeAt
  refine vv_aload_n (pc := 0) X (kf := 0) (i := 0) rfl 0 rfl dX1_placeAt_0 ?_
  refine vv_getR (pc := 1) X (fun _ z => by cases List.mem_singleton.mp z; exact fl_X1_35_0) dX1_placeAt_1 (fun v1 => ?_)
  refine vv_iload_n (pc := 4) X (kf := 1) (i := 1) rfl 1 rfl dX1_placeAt_4 ?_
  refine vv_rcv (fun b4 t9 c9 fs9 e5 g9 k9 => ?_)
  cases List.mem_singleton.mp k9
  refine vv_callI (pc := 5) (rest := []) (by rw [e5]; rfl) (fun r8 k8 e8 => zz_callV X (m_X2_isPlace (hlM X) _ _ _ _ _ e8) g9 rfl rfl q3065 q2584 q2585 q133 q2586 nh_X2 rfl (by decide) (by decide) (Nat.le_of_ble_eq_true rfl) dX1_placeAt_5) (fun v2 h3 => ?_)
  refine vv_xallV (pc := 8) (rest := []) (by rfl) (fun r8 k8 e8 => zz_callS X (m_X1_index (hlM X) _ _ _ _ e8) q3066 q3067 q132 q3068 nh_X1 rfl (by decide) (by decide) (Nat.le_of_ble_eq_true rfl) dX1_placeAt_8) (fun v6 h7 => ?_) (fun q8 h9 => ?_)
  · exact vv_vreturn X rfl rfl dX1_placeAt_11
  · exact vvx_out X (by decide) rfl
theorem m_X1_placeAt {l : Launch} (hl : l.stackTraces = false) {G : va_G} (a0 : Nat) (a1 : Int) (h : HP) : ∀ r hf, f_X1_placeAt a0 a1 h = some (r, hf) → Ct l yX1_placeAt (ws_ yX1_placeAt cX1_placeAt 2 none) 7 125 G h [.ref a0, .int (iI a1)] (xV r) hf :=
  zz_ofW hl (by decide +kernel) (lv := [(0, LR (some a0)), (1, LI a1)]) (by simp [lv_args, lvL, lvV, zz_rfc, va_cat1, Value.category]) (by simp [lg_sl, zz_rfc, va_cat1, Value.category]) (fun _ X => A_X1_placeAt X a0 a1 h)
-- X1_at RenamedWords.at(II)V
noncomputable def f_X1_at (a0 : Nat) (a1 : Int) (a2 : Int) (h : HP) : Option ((Nat ⊕ Unit) × HP) :=
  (rcv h (some a0) [0]).bind fun b3 =>
  hbx (f_X1_patternAt b3 a1 h) (fun q5 h6 =>
      some (.inl q5, h6)) fun v1 h2 =>
  (rcv h2 (some a0) [0]).bind fun b9 =>
  hbx (f_X1_placeAt b9 a2 h2) (fun q11 h12 =>
      some (.inl q11, h12)) fun _ h8 =>
  some (.inr (), h8)
theorem A_X1_at {M : hp_M} {G : va_G} {h0 : HP} (X : hp_X M G h0 "RenamedWords" "at" cX1_at 4 none [] 8 154) (a0 : Nat) (a1 : Int) (a2 : Int) (h : HP) : vv M G h0 4 (hp_End M G h0) xV h 0 [(0, LR (some a0)), (1, LI a1), (2, LI a2)] [] (f_X1_at a0 a1 a2 h) := by
  unfold f_X1_at
  refine vv_aload_n (pc := 0) X (kf := 0) (i := 0) rfl 0 rfl dX1_at_0 ?_
  refine vv_iload_n (pc := 1) X (kf := 1) (i := 1) rfl 1 rfl dX1_at_1 ?_
  refine vv_rcv (fun b3 t9 c9 fs9 e4 g9 k9 => ?_)
  cases List.mem_singleton.mp k9
  refine vv_xallR (pc := 2) (rest := []) (by rw [e4]; rfl) (fun r8 k8 e8 => zz_callV X (m_X1_patternAt (hlM X) _ _ _ _ _ e8) g9 rfl rfl q3102 q3104 qs47 q132 q3105 nh_X1 rfl (by decide) (by decide) (Nat.le_of_ble_eq_true rfl) dX1_at_2) (fun v1 h2 => ?_) (fun q5 h6 => ?_)
  · refine vv_astore_n (pc := 5) (lv' := [(3, LR v1), (0, LR (some a0)), (1, LI a1), (2, LI a2)]) X (kf := 3) (i := 3) rfl (by decide) rfl dX1_at_5 ?_
    refine vv_aload_n (pc := 6) X (kf := 0) (i := 0) rfl 1 rfl dX1_at_6 ?_
    refine vv_iload_n (pc := 7) X (kf := 2) (i := 2) rfl 3 rfl dX1_at_7 ?_
    refine vv_rcv (fun b9 t9 c9 fs9 e10 g9 k9 => ?_)
    cases List.mem_singleton.mp k9
    refine vv_xallV (pc := 8) (rest := []) (by rw [e10]; rfl) (fun r8 k8 e8 => zz_callV X (m_X1_placeAt (hlM X) _ _ _ _ _ e8) g9 rfl rfl q3061 q3063 qs46 q132 q3064 nh_X1 rfl (by decide) (by decide) (Nat.le_of_ble_eq_true rfl) dX1_at_8) (fun v7 h8 => ?_) (fun q11 h12 => ?_)
    · exact vv_vreturn X rfl rfl dX1_at_11
    · exact vvx_out X (by decide) rfl
  · exact vvx_out X (by decide) rfl
theorem m_X1_at {l : Launch} (hl : l.stackTraces = false) {G : va_G} (a0 : Nat) (a1 : Int) (a2 : Int) (h : HP) : ∀ r hf, f_X1_at a0 a1 a2 h = some (r, hf) → Ct l yX1_at (ws_ yX1_at cX1_at 4 none) 8 154 G h [.ref a0, .int (iI a1), .int (iI a2)] (xV r) hf :=
  zz_ofW hl (by decide +kernel) (lv := [(0, LR (some a0)), (1, LI a1), (2, LI a2)]) (by simp [lv_args, lvL, lvV, zz_rfc, va_cat1, Value.category]) (by simp [lg_sl, zz_rfc, va_cat1, Value.category]) (fun _ X => A_X1_at X a0 a1 a2 h)
-- X14_many RenamedWords$Word.many()I
noncomputable def f_X14_many (a0 : Nat) (h : HP) : Option ((Int) × HP) :=
  (rdR h (some a0) [11] 0).bind fun v1 =>
  (alen h v1).bind fun v2 =>
  some (v2, h)
theorem A_X14_many {M : hp_M} {G : va_G} {h0 : HP} (X : hp_X M G h0 "RenamedWords$Word" "many" cX14_many 1 (some .int) [] 0 0) (a0 : Nat) (h : HP) : vv M G h0 1 (hp_End M G h0) jI h 0 [(0, LR (some a0))] [] (f_X14_many a0 h) := by
  unfold f_X14_many
  refine vv_aload_n (pc := 0) X (kf := 0) (i := 0) rfl 0 rfl dX14_many_0 ?_
  refine vv_getR (pc := 1) X (fun _ z => by cases List.mem_singleton.mp z; exact fl_X14_9_11) dX14_many_1 (fun v1 => ?_)
  refine vv_alen (pc := 4) X dX14_many_4 (fun v2 => ?_)
  exact vv_iretI X rfl rfl dX14_many_5
theorem m_X14_many {l : Launch} (hl : l.stackTraces = false) {G : va_G} (a0 : Nat) (h : HP) : ∀ r hf, f_X14_many a0 h = some (r, hf) → Ct l yX14_many (ws_ yX14_many cX14_many 1 (some .int)) 0 0 G h [.ref a0] (jI r) hf :=
  zz_ofW hl (by decide +kernel) (lv := [(0, LR (some a0))]) (by simp [lv_args, lvL, lvV, zz_rfc, va_cat1, Value.category]) (by simp [lg_sl, zz_rfc, va_cat1, Value.category]) (fun _ X => A_X14_many X a0 h)
-- X7_lays RenamedWords$Window.lays(LRenamedWords$Row;II)LRenamedWords$Window;
noncomputable def f_X7_lays (a0 : Nat) (a1 : Option Nat) (a2 : Int) (a3 : Int) (h : HP) : Option ((Option Nat) × HP) :=
  (wrR h (some a0) [5] 0 a1).bind fun h1 =>
  (wrI h1 (some a0) [5] 1 a2).bind fun h2 =>
  (wrI h2 (some a0) [5] 2 a3).bind fun h3 =>
  some ((some a0), h3)
theorem A_X7_lays {M : hp_M} {G : va_G} {h0 : HP} (X : hp_X M G h0 "RenamedWords$Window" "lays" cX7_lays 4 (some (.object "RenamedWords$Window")) [] 0 0) (a0 : Nat) (a1 : Option Nat) (a2 : Int) (a3 : Int) (h : HP) : vv M G h0 4 (hp_End M G h0) jR h 0 [(0, LR (some a0)), (1, LR a1), (2, LI a2), (3, LI a3)] [] (f_X7_lays a0 a1 a2 a3 h) := by
  unfold f_X7_lays
  refine vv_aload_n (pc := 0) X (kf := 0) (i := 0) rfl 0 rfl dX7_lays_0 ?_
  refine vv_aload_n (pc := 1) X (kf := 1) (i := 1) rfl 1 rfl dX7_lays_1 ?_
  refine vv_putR (pc := 2) (ty9 := (.object "RenamedWords$Row")) (fin := false) X (fun _ z => by cases List.mem_singleton.mp z; exact fl_X7_7_5) (fun z => nomatch z) (fun z => nomatch z) (by decide +kernel) rfl dX7_lays_2 (fun h1 => ?_)
  refine vv_aload_n (pc := 5) X (kf := 0) (i := 0) rfl 0 rfl dX7_lays_5 ?_
  refine vv_iload_n (pc := 6) X (kf := 2) (i := 2) rfl 2 rfl dX7_lays_6 ?_
  refine vv_putI (pc := 7) (fin := false) X (fun _ z => by cases List.mem_singleton.mp z; exact fl_X7_13_5) (fun z => nomatch z) (fun z => nomatch z) dX7_lays_7 (fun h2 => ?_)
  refine vv_aload_n (pc := 10) X (kf := 0) (i := 0) rfl 0 rfl dX7_lays_10 ?_
  refine vv_iload_n (pc := 11) X (kf := 3) (i := 3) rfl 3 rfl dX7_lays_11 ?_
  refine vv_putI (pc := 12) (fin := false) X (fun _ z => by cases List.mem_singleton.mp z; exact fl_X7_17_5) (fun z => nomatch z) (fun z => nomatch z) dX7_lays_12 (fun h3 => ?_)
  refine vv_aload_n (pc := 15) X (kf := 0) (i := 0) rfl 0 rfl dX7_lays_15 ?_
  exact vv_aretO X rfl rfl dX7_lays_16
theorem m_X7_lays {l : Launch} (hl : l.stackTraces = false) {G : va_G} (a0 : Nat) (a1 : Option Nat) (a2 : Int) (a3 : Int) (h : HP) : ∀ r hf, f_X7_lays a0 a1 a2 a3 h = some (r, hf) → Ct l yX7_lays (ws_ yX7_lays cX7_lays 4 (some (.object "RenamedWords$Window"))) 0 0 G h [.ref a0, va_rf a1, .int (iI a2), .int (iI a3)] (jR r) hf :=
  zz_ofW hl (by decide +kernel) (lv := [(0, LR (some a0)), (1, LR a1), (2, LI a2), (3, LI a3)]) (by simp [lv_args, lvL, lvV, zz_rfc, va_cat1, Value.category]) (by simp [lg_sl, zz_rfc, va_cat1, Value.category]) (fun _ X => A_X7_lays X a0 a1 a2 a3 h)
-- X5_many RenamedWords$Text.many()I
noncomputable def f_X5_many (a0 : Nat) (h : HP) : Option ((Int) × HP) :=
  (rdI h (some a0) [3] 3).bind fun v1 =>
  some (v1, h)
theorem A_X5_many {M : hp_M} {G : va_G} {h0 : HP} (X : hp_X M G h0 "RenamedWords$Text" "many" cX5_many 1 (some .int) [] 0 0) (a0 : Nat) (h : HP) : vv M G h0 1 (hp_End M G h0) jI h 0 [(0, LR (some a0))] [] (f_X5_many a0 h) := by
  unfold f_X5_many
  refine vv_aload_n (pc := 0) X (kf := 0) (i := 0) rfl 0 rfl dX5_many_0 ?_
  refine vv_getI (pc := 1) X (fun _ z => by cases List.mem_singleton.mp z; exact fl_X5_25_3) dX5_many_1 (fun v1 => ?_)
  exact vv_iretI X rfl rfl dX5_many_4
theorem m_X5_many {l : Launch} (hl : l.stackTraces = false) {G : va_G} (a0 : Nat) (h : HP) : ∀ r hf, f_X5_many a0 h = some (r, hf) → Ct l yX5_many (ws_ yX5_many cX5_many 1 (some .int)) 0 0 G h [.ref a0] (jI r) hf :=
  zz_ofW hl (by decide +kernel) (lv := [(0, LR (some a0))]) (by simp [lv_args, lvL, lvV, zz_rfc, va_cat1, Value.category]) (by simp [lg_sl, zz_rfc, va_cat1, Value.category]) (fun _ X => A_X5_many X a0 h)
-- X7_many RenamedWords$Window.many()I
noncomputable def f_X7_many (a0 : Nat) (h : HP) : Option ((Int) × HP) :=
  (rdI h (some a0) [5] 2).bind fun v1 =>
  some (v1, h)
theorem A_X7_many {M : hp_M} {G : va_G} {h0 : HP} (X : hp_X M G h0 "RenamedWords$Window" "many" cX7_many 1 (some .int) [] 0 0) (a0 : Nat) (h : HP) : vv M G h0 1 (hp_End M G h0) jI h 0 [(0, LR (some a0))] [] (f_X7_many a0 h) := by
  unfold f_X7_many
  refine vv_aload_n (pc := 0) X (kf := 0) (i := 0) rfl 0 rfl dX7_many_0 ?_
  refine vv_getI (pc := 1) X (fun _ z => by cases List.mem_singleton.mp z; exact fl_X7_17_5) dX7_many_1 (fun v1 => ?_)
  exact vv_iretI X rfl rfl dX7_many_4
theorem m_X7_many {l : Launch} (hl : l.stackTraces = false) {G : va_G} (a0 : Nat) (h : HP) : ∀ r hf, f_X7_many a0 h = some (r, hf) → Ct l yX7_many (ws_ yX7_many cX7_many 1 (some .int)) 0 0 G h [.ref a0] (jI r) hf :=
  zz_ofW hl (by decide +kernel) (lv := [(0, LR (some a0))]) (by simp [lv_args, lvL, lvV, zz_rfc, va_cat1, Value.category]) (by simp [lg_sl, zz_rfc, va_cat1, Value.category]) (fun _ X => A_X7_many X a0 h)
-- X5_at RenamedWords$Text.at(I)I
noncomputable def f_X5_at (a0 : Nat) (a1 : Int) (h : HP) : Option ((Int) × HP) :=
  (rdR h (some a0) [3] 0).bind fun v1 =>
  (aldI h .int v1 a1).bind fun v2 =>
  some (v2, h)
theorem A_X5_at {M : hp_M} {G : va_G} {h0 : HP} (X : hp_X M G h0 "RenamedWords$Text" "at" cX5_at 2 (some .int) [] 0 0) (a0 : Nat) (a1 : Int) (h : HP) : vv M G h0 2 (hp_End M G h0) jI h 0 [(0, LR (some a0)), (1, LI a1)] [] (f_X5_at a0 a1 h) := by
  unfold f_X5_at
  refine vv_aload_n (pc := 0) X (kf := 0) (i := 0) rfl 0 rfl dX5_at_0 ?_
  refine vv_getR (pc := 1) X (fun _ z => by cases List.mem_singleton.mp z; exact fl_X5_9_3) dX5_at_1 (fun v1 => ?_)
  refine vv_iload_n (pc := 4) X (kf := 1) (i := 1) rfl 1 rfl dX5_at_4 ?_
  refine vv_iaload (pc := 5) X dX5_at_5 (fun v2 => ?_)
  exact vv_iretI X rfl rfl dX5_at_6
theorem m_X5_at {l : Launch} (hl : l.stackTraces = false) {G : va_G} (a0 : Nat) (a1 : Int) (h : HP) : ∀ r hf, f_X5_at a0 a1 h = some (r, hf) → Ct l yX5_at (ws_ yX5_at cX5_at 2 (some .int)) 0 0 G h [.ref a0, .int (iI a1)] (jI r) hf :=
  zz_ofW hl (by decide +kernel) (lv := [(0, LR (some a0)), (1, LI a1)]) (by simp [lv_args, lvL, lvV, zz_rfc, va_cat1, Value.category]) (by simp [lg_sl, zz_rfc, va_cat1, Value.category]) (fun _ X => A_X5_at X a0 a1 h)
-- X14_at RenamedWords$Word.at(I)I
noncomputable def f_X14_at (a0 : Nat) (a1 : Int) (h : HP) : Option ((Int) × HP) :=
  (rdR h (some a0) [11] 0).bind fun v1 =>
  (aldI h .int v1 a1).bind fun v2 =>
  some (v2, h)
theorem A_X14_at {M : hp_M} {G : va_G} {h0 : HP} (X : hp_X M G h0 "RenamedWords$Word" "at" cX14_at 2 (some .int) [] 0 0) (a0 : Nat) (a1 : Int) (h : HP) : vv M G h0 2 (hp_End M G h0) jI h 0 [(0, LR (some a0)), (1, LI a1)] [] (f_X14_at a0 a1 h) := by
  unfold f_X14_at
  refine vv_aload_n (pc := 0) X (kf := 0) (i := 0) rfl 0 rfl dX14_at_0 ?_
  refine vv_getR (pc := 1) X (fun _ z => by cases List.mem_singleton.mp z; exact fl_X14_9_11) dX14_at_1 (fun v1 => ?_)
  refine vv_iload_n (pc := 4) X (kf := 1) (i := 1) rfl 1 rfl dX14_at_4 ?_
  refine vv_iaload (pc := 5) X dX14_at_5 (fun v2 => ?_)
  exact vv_iretI X rfl rfl dX14_at_6
theorem m_X14_at {l : Launch} (hl : l.stackTraces = false) {G : va_G} (a0 : Nat) (a1 : Int) (h : HP) : ∀ r hf, f_X14_at a0 a1 h = some (r, hf) → Ct l yX14_at (ws_ yX14_at cX14_at 2 (some .int)) 0 0 G h [.ref a0, .int (iI a1)] (jI r) hf :=
  zz_ofW hl (by decide +kernel) (lv := [(0, LR (some a0)), (1, LI a1)]) (by simp [lv_args, lvL, lvV, zz_rfc, va_cat1, Value.category]) (by simp [lg_sl, zz_rfc, va_cat1, Value.category]) (fun _ X => A_X14_at X a0 a1 h)
-- X7_at RenamedWords$Window.at(I)I
noncomputable def dsp_Row_at_3_11 (b : Nat) (a1 : Int) (h : HP) : Option ((Int) × HP) := (clsOf h b).bind fun c => if c = 3 then f_X5_at b a1 h else if c = 11 then f_X14_at b a1 h else none
theorem Zdsp_Row_at_3_11 {M : hp_M} {G : va_G} {h0 h : HP} {own nm : String} {cc : ByteArray} {nL F L : Nat} {ret : Option FieldType} {tb : List ExceptionTableEntry} (X : hp_X M G h0 own nm cc nL ret tb F L) {b ix pc : Nat} {a1 : Int} {rest : List Value} (q1 : Cond.methodLink own ix (⟨"RenamedWords$Row", "at", "(I)I"⟩ : MethodName) ∈ lw_all) (d : decode cc pc = .ok (.invokevirtual ix, 3)) (hF : 1 ≤ F) (hL : 29 ≤ L) (hr : rest.length ≤ 8) {r8 : Int} {k8 : HP} (e : dsp_Row_at_3_11 b a1 h = some (r8, k8)) : zz_run M G h0 nL h pc (pc + 3) ([.int (iI a1)].reverse ++ .ref b :: rest) rest (jI r8) k8 := by
  unfold dsp_Row_at_3_11 at e
  obtain ⟨c, hc, e⟩ := Option.bind_eq_some_iff.mp e
  obtain ⟨t9, fs9, g9⟩ := clsOf_some hc
  by_cases z0 : c = 3
  · subst z0
    have e8 : f_X5_at b a1 h = some (r8, k8) := by simpa using e
    exact zz_callU X (m_X5_at (hlM X) _ _ _ _ _ e8) g9 rfl q1 q2633 (va_Decl.abs (X.2.1.2.1 _ q2632 rfl)) (by decide) q2635 q2634 q157 q2636 rfl (by omega) (by omega) hr d
  by_cases z1 : c = 11
  · subst z1
    have e8 : f_X14_at b a1 h = some (r8, k8) := by simpa using e
    exact zz_callU X (m_X14_at (hlM X) _ _ _ _ _ e8) g9 rfl q1 q2633 (va_Decl.abs (X.2.1.2.1 _ q2632 rfl)) (by decide) q2641 q2643 q174 q2642 rfl (by omega) (by omega) hr d
  simp [z0, z1] at e

noncomputable def f_X7_at (a0 : Nat) (a1 : Int) (h : HP) : Option ((Int) × HP) :=
  (rdR h (some a0) [5] 0).bind fun v1 =>
  (rdI h (some a0) [5] 1).bind fun v2 =>
  (v1).bind fun b5 =>
  hb (dsp_Row_at_3_11 b5 (v2 + a1) h) fun v3 h4 =>
  some (v3, h4)
theorem A_X7_at {M : hp_M} {G : va_G} {h0 : HP} (X : hp_X M G h0 "RenamedWords$Window" "at" cX7_at 2 (some .int) [] 1 29) (a0 : Nat) (a1 : Int) (h : HP) : vv M G h0 2 (hp_End M G h0) jI h 0 [(0, LR (some a0)), (1, LI a1)] [] (f_X7_at a0 a1 h) := by
  unfold f_X7_at
  refine vv_aload_n (pc := 0) X (kf := 0) (i := 0) rfl 0 rfl dX7_at_0 ?_
  refine vv_getR (pc := 1) X (fun _ z => by cases List.mem_singleton.mp z; exact fl_X7_7_5) dX7_at_1 (fun v1 => ?_)
  refine vv_aload_n (pc := 4) X (kf := 0) (i := 0) rfl 0 rfl dX7_at_4 ?_
  refine vv_getI (pc := 5) X (fun _ z => by cases List.mem_singleton.mp z; exact fl_X7_13_5) dX7_at_5 (fun v2 => ?_)
  refine vv_iload_n (pc := 8) X (kf := 1) (i := 1) rfl 1 rfl dX7_at_8 ?_
  refine vv_iadd (pc := 9) X dX7_at_9 ?_
  refine vv_bnd (fun b5 e6 => ?_)
  refine vv_callI (pc := 10) (rest := []) (by rw [e6]; rfl) (fun r8 k8 e8 => Zdsp_Row_at_3_11 X q2640 dX7_at_10 (by decide) (by decide) (Nat.le_of_ble_eq_true rfl) e8) (fun v3 h4 => ?_)
  exact vv_iretI X rfl rfl dX7_at_13
theorem m_X7_at {l : Launch} (hl : l.stackTraces = false) {G : va_G} (a0 : Nat) (a1 : Int) (h : HP) : ∀ r hf, f_X7_at a0 a1 h = some (r, hf) → Ct l yX7_at (ws_ yX7_at cX7_at 2 (some .int)) 1 29 G h [.ref a0, .int (iI a1)] (jI r) hf :=
  zz_ofW hl (by decide +kernel) (lv := [(0, LR (some a0)), (1, LI a1)]) (by simp [lv_args, lvL, lvV, zz_rfc, va_cat1, Value.category]) (by simp [lg_sl, zz_rfc, va_cat1, Value.category]) (fun _ X => A_X7_at X a0 a1 h)
-- X4_isFirm_2 RenamedWords$Row.isFirm(II)Z
noncomputable def dsp_Row_at_3_5_11 (b : Nat) (a1 : Int) (h : HP) : Option ((Int) × HP) := (clsOf h b).bind fun c => if c = 3 then f_X5_at b a1 h else if c = 5 then f_X7_at b a1 h else if c = 11 then f_X14_at b a1 h else none
theorem Zdsp_Row_at_3_5_11 {M : hp_M} {G : va_G} {h0 h : HP} {own nm : String} {cc : ByteArray} {nL F L : Nat} {ret : Option FieldType} {tb : List ExceptionTableEntry} (X : hp_X M G h0 own nm cc nL ret tb F L) {b ix pc : Nat} {a1 : Int} {rest : List Value} (q1 : Cond.methodLink own ix (⟨"RenamedWords$Row", "at", "(I)I"⟩ : MethodName) ∈ lw_all) (d : decode cc pc = .ok (.invokevirtual ix, 3)) (hF : 2 ≤ F) (hL : 58 ≤ L) (hr : rest.length ≤ 8) {r8 : Int} {k8 : HP} (e : dsp_Row_at_3_5_11 b a1 h = some (r8, k8)) : zz_run M G h0 nL h pc (pc + 3) ([.int (iI a1)].reverse ++ .ref b :: rest) rest (jI r8) k8 := by
  unfold dsp_Row_at_3_5_11 at e
  obtain ⟨c, hc, e⟩ := Option.bind_eq_some_iff.mp e
  obtain ⟨t9, fs9, g9⟩ := clsOf_some hc
  by_cases z0 : c = 3
  · subst z0
    have e8 : f_X5_at b a1 h = some (r8, k8) := by simpa using e
    exact zz_callU X (m_X5_at (hlM X) _ _ _ _ _ e8) g9 rfl q1 q2633 (va_Decl.abs (X.2.1.2.1 _ q2632 rfl)) (by decide) q2635 q2634 q157 q2636 rfl (by omega) (by omega) hr d
  by_cases z1 : c = 5
  · subst z1
    have e8 : f_X7_at b a1 h = some (r8, k8) := by simpa using e
    exact zz_callU X (m_X7_at (hlM X) _ _ _ _ _ e8) g9 rfl q1 q2633 (va_Decl.abs (X.2.1.2.1 _ q2632 rfl)) (by decide) q2638 q2637 q159 q2639 rfl (by omega) (by omega) hr d
  by_cases z2 : c = 11
  · subst z2
    have e8 : f_X14_at b a1 h = some (r8, k8) := by simpa using e
    exact zz_callU X (m_X14_at (hlM X) _ _ _ _ _ e8) g9 rfl q1 q2633 (va_Decl.abs (X.2.1.2.1 _ q2632 rfl)) (by decide) q2641 q2643 q174 q2642 rfl (by omega) (by omega) hr d
  simp [z0, z1, z2] at e

noncomputable def b_X4_isFirm_2_14 (s0 : Int) (h : HP) : Option ((Int) × HP) :=
  rtZ s0 (some (s0, h))
theorem B_X4_isFirm_2_14 {M : hp_M} {G : va_G} {h0 : HP} (X : hp_X M G h0 "RenamedWords$Row" "isFirm" cX4_isFirm 3 (some .boolean) [] 2 58) (s0 : Int) (h : HP) : vv M G h0 3 (hp_End M G h0) jI h 14 [] [LI s0] (b_X4_isFirm_2_14 s0 h) := by
  unfold b_X4_isFirm_2_14
  exact vv_iretZ X rfl rfl dX4_isFirm_14
noncomputable def f_X4_isFirm_2 (a0 : Nat) (a1 : Int) (a2 : Int) (h : HP) : Option ((Int) × HP) :=
  ((some a0)).bind fun b3 =>
  hb (dsp_Row_at_3_5_11 b3 a1 h) fun v1 h2 =>
  iLE a2 v1
    (b_X4_isFirm_2_14 0 h2)
    (b_X4_isFirm_2_14 1 h2)
theorem A_X4_isFirm_2 {M : hp_M} {G : va_G} {h0 : HP} (X : hp_X M G h0 "RenamedWords$Row" "isFirm" cX4_isFirm 3 (some .boolean) [] 2 58) (a0 : Nat) (a1 : Int) (a2 : Int) (h : HP) : vv M G h0 3 (hp_End M G h0) jI h 0 [(0, LR (some a0)), (1, LI a1), (2, LI a2)] [] (f_X4_isFirm_2 a0 a1 a2 h) := by
  unfold f_X4_isFirm_2
  refine vv_aload_n (pc := 0) X (kf := 0) (i := 0) rfl 0 rfl dX4_isFirm_0 ?_
  refine vv_iload_n (pc := 1) X (kf := 1) (i := 1) rfl 1 rfl dX4_isFirm_1 ?_
  refine vv_bnd (fun b3 e4 => ?_)
  refine vv_callI (pc := 2) (rest := []) (by rw [e4]; rfl) (fun r8 k8 e8 => Zdsp_Row_at_3_5_11 X q2631 dX4_isFirm_2 (by decide) (by decide) (Nat.le_of_ble_eq_true rfl) e8) (fun v1 h2 => ?_)
  refine vv_iload_n (pc := 5) X (kf := 2) (i := 2) rfl 2 rfl dX4_isFirm_5 ?_
  refine vv_icmp_ge (pc := 6) (tgt := 13) X dX4_isFirm_6 rfl ?_ ?_
  · refine vv_iconst (pc := 13) X dX4_isFirm_13 ?_
    exact vv_sub [] (by rfl) (B_X4_isFirm_2_14 X _ _)
  · refine vv_iconst (pc := 9) X dX4_isFirm_9 ?_
    refine vv_goto (pc := 10) (tgt := 14) X dX4_isFirm_10 rfl ?_
    exact vv_sub [] (by rfl) (B_X4_isFirm_2_14 X _ _)
theorem m_X4_isFirm_2 {l : Launch} (hl : l.stackTraces = false) {G : va_G} (a0 : Nat) (a1 : Int) (a2 : Int) (h : HP) : ∀ r hf, f_X4_isFirm_2 a0 a1 a2 h = some (r, hf) → Ct l yX4_isFirm (ws_ yX4_isFirm cX4_isFirm 3 (some .boolean)) 2 58 G h [.ref a0, .int (iI a1), .int (iI a2)] (jI r) hf :=
  zz_ofW hl (by decide +kernel) (lv := [(0, LR (some a0)), (1, LI a1), (2, LI a2)]) (by simp [lv_args, lvL, lvV, zz_rfc, va_cat1, Value.category]) (by simp [lg_sl, zz_rfc, va_cat1, Value.category]) (fun _ X => A_X4_isFirm_2 X a0 a1 a2 h)
-- X5_lays RenamedWords$Text.lays(I)V
noncomputable def b_X5_lays_75 (r28 : Option Nat → Int → Int → HP → Option ((Unit) × HP)) (x0 : Option Nat) (x1 : Int) (x2 : Int) (x3 : Int) (s0 : Int) (s1 : Int) (s2 : Option Nat) (h : HP) : Option ((Unit) × HP) :=
  (astI h .int s2 s1 s0).bind fun h6 =>
  (rdR h6 x0 [3] 2).bind fun v7 =>
  (astI h6 .int v7 x3 x2).bind fun h8 =>
  r28 x0 x1 (x2 + 1) h8
theorem B_X5_lays_75 {M : hp_M} {G : va_G} {h0 : HP} (X : hp_X M G h0 "RenamedWords$Text" "lays" cX5_lays 4 none [] 0 0) (r28 : Option Nat → Int → Int → HP → Option ((Unit) × HP)) (hr28 : ∀ (y0 : Option Nat) (y1 : Int) (y2 : Int) (h : HP), vv M G h0 4 (hp_End M G h0) jV h 28 [(0, LR y0), (1, LI y1), (2, LI y2)] [] (r28 y0 y1 y2 h)) (x0 : Option Nat) (x1 : Int) (x2 : Int) (x3 : Int) (s0 : Int) (s1 : Int) (s2 : Option Nat) (h : HP) : vv M G h0 4 (hp_End M G h0) jV h 75 [(0, LR x0), (1, LI x1), (2, LI x2), (3, LI x3)] [LI s0, LI s1, LR s2] (b_X5_lays_75 r28 x0 x1 x2 x3 s0 s1 s2 h) := by
  unfold b_X5_lays_75
  refine vv_iastore (pc := 75) X dX5_lays_75 (fun h6 => ?_)
  refine vv_aload_n (pc := 76) X (kf := 0) (i := 0) rfl 0 rfl dX5_lays_76 ?_
  refine vv_getR (pc := 77) X (fun _ z => by cases List.mem_singleton.mp z; exact fl_X5_18_3) dX5_lays_77 (fun v7 => ?_)
  refine vv_iload_n (pc := 80) X (kf := 3) (i := 3) rfl 3 rfl dX5_lays_80 ?_
  refine vv_iload_n (pc := 81) X (kf := 2) (i := 2) rfl 2 rfl dX5_lays_81 ?_
  refine vv_iastore (pc := 82) X dX5_lays_82 (fun h8 => ?_)
  refine vv_iinc (pc := 83) (lv' := [(2, LI (x2 + 1)), (0, LR x0), (1, LI x1), (3, LI x3)]) X 2 rfl (by decide) rfl dX5_lays_83 ?_
  refine vv_goto (pc := 86) (tgt := 28) X dX5_lays_86 rfl ?_
  exact vv_sub [1, 2, 0] (by rfl) (hr28 _ _ _ _)
noncomputable def b_X5_lays_63 (r28 : Option Nat → Int → Int → HP → Option ((Unit) × HP)) (x0 : Option Nat) (x1 : Int) (x2 : Int) (x3 : Int) (s0 : Int) (s1 : Option Nat) (h : HP) : Option ((Unit) × HP) :=
  b_X5_lays_75 r28 x0 x1 x2 x3 0 s0 s1 h
theorem B_X5_lays_63 {M : hp_M} {G : va_G} {h0 : HP} (X : hp_X M G h0 "RenamedWords$Text" "lays" cX5_lays 4 none [] 0 0) (r28 : Option Nat → Int → Int → HP → Option ((Unit) × HP)) (hr28 : ∀ (y0 : Option Nat) (y1 : Int) (y2 : Int) (h : HP), vv M G h0 4 (hp_End M G h0) jV h 28 [(0, LR y0), (1, LI y1), (2, LI y2)] [] (r28 y0 y1 y2 h)) (x0 : Option Nat) (x1 : Int) (x2 : Int) (x3 : Int) (s0 : Int) (s1 : Option Nat) (h : HP) : vv M G h0 4 (hp_End M G h0) jV h 63 [(0, LR x0), (1, LI x1), (2, LI x2), (3, LI x3)] [LI s0, LR s1] (b_X5_lays_63 r28 x0 x1 x2 x3 s0 s1 h) := by
  unfold b_X5_lays_63
  refine vv_iconst (pc := 63) X dX5_lays_63 ?_
  refine vv_goto (pc := 64) (tgt := 75) X dX5_lays_64 rfl ?_
  exact B_X5_lays_75 X r28 hr28 _ _ _ _ _ _ _ _
noncomputable def c_X5_lays_28 (r28 : Option Nat → Int → Int → HP → Option ((Unit) × HP)) (x0 : Option Nat) (x1 : Int) (x2 : Int) (h : HP) : Option ((Unit) × HP) :=
  (rdI h x0 [3] 3).bind fun v2 =>
  iLE v2 x2
    (some ((), h))
    ((rdR h x0 [3] 0).bind fun v3 =>
    (aldI h .int v3 x2).bind fun v4 =>
    (rdR h x0 [3] 1).bind fun v5 =>
    iLT v4 x1
      (b_X5_lays_63 r28 x0 x1 x2 v4 x2 v5 h)
      ((rdR h x0 [3] 2).bind fun v9 =>
      (aldI h .int v9 v4).bind fun v10 =>
      iEQ v10 (-1)
        (b_X5_lays_63 r28 x0 x1 x2 v4 x2 v5 h)
        ((rdR h x0 [3] 2).bind fun v11 =>
        (aldI h .int v11 v4).bind fun v12 =>
        b_X5_lays_75 r28 x0 x1 x2 v4 (x2 - v12) x2 v5 h)))
noncomputable def b_X5_lays_28 : Option Nat → Int → Int → HP → Option ((Unit) × HP) := fx (fun _ _ _ _ => none) (c_X5_lays_28) FU
theorem C_X5_lays_28 {M : hp_M} {G : va_G} {h0 : HP} (X : hp_X M G h0 "RenamedWords$Text" "lays" cX5_lays 4 none [] 0 0) (r28 : Option Nat → Int → Int → HP → Option ((Unit) × HP)) (hr28 : ∀ (y0 : Option Nat) (y1 : Int) (y2 : Int) (h : HP), vv M G h0 4 (hp_End M G h0) jV h 28 [(0, LR y0), (1, LI y1), (2, LI y2)] [] (r28 y0 y1 y2 h)) (x0 : Option Nat) (x1 : Int) (x2 : Int) (h : HP) : vv M G h0 4 (hp_End M G h0) jV h 28 [(0, LR x0), (1, LI x1), (2, LI x2)] [] (c_X5_lays_28 r28 x0 x1 x2 h) := by
  unfold c_X5_lays_28
  refine vv_iload_n (pc := 28) X (kf := 2) (i := 2) rfl 2 rfl dX5_lays_28 ?_
  refine vv_aload_n (pc := 29) X (kf := 0) (i := 0) rfl 0 rfl dX5_lays_29 ?_
  refine vv_getI (pc := 30) X (fun _ z => by cases List.mem_singleton.mp z; exact fl_X5_25_3) dX5_lays_30 (fun v2 => ?_)
  refine vv_icmp_ge (pc := 33) (tgt := 89) X dX5_lays_33 rfl ?_ ?_
  · exact vv_vreturn X rfl rfl dX5_lays_89
  · refine vv_aload_n (pc := 36) X (kf := 0) (i := 0) rfl 0 rfl dX5_lays_36 ?_
    refine vv_getR (pc := 37) X (fun _ z => by cases List.mem_singleton.mp z; exact fl_X5_9_3) dX5_lays_37 (fun v3 => ?_)
    refine vv_iload_n (pc := 40) X (kf := 2) (i := 2) rfl 2 rfl dX5_lays_40 ?_
    refine vv_iaload (pc := 41) X dX5_lays_41 (fun v4 => ?_)
    refine vv_istore_n (pc := 42) (lv' := [(3, LI v4), (0, LR x0), (1, LI x1), (2, LI x2)]) X (kf := 3) (i := 3) rfl (by decide) rfl dX5_lays_42 ?_
    refine vv_aload_n (pc := 43) X (kf := 0) (i := 0) rfl 1 rfl dX5_lays_43 ?_
    refine vv_getR (pc := 44) X (fun _ z => by cases List.mem_singleton.mp z; exact fl_X5_15_3) dX5_lays_44 (fun v5 => ?_)
    refine vv_iload_n (pc := 47) X (kf := 2) (i := 2) rfl 3 rfl dX5_lays_47 ?_
    refine vv_iload_n (pc := 48) X (kf := 3) (i := 3) rfl 0 rfl dX5_lays_48 ?_
    refine vv_iload_n (pc := 49) X (kf := 1) (i := 1) rfl 2 rfl dX5_lays_49 ?_
    refine vv_icmp_lt (pc := 50) (tgt := 63) X dX5_lays_50 rfl ?_ ?_
    · exact vv_sub [1, 2, 3, 0] (by rfl) (B_X5_lays_63 X r28 hr28 _ _ _ _ _ _ _)
    · refine vv_aload_n (pc := 53) X (kf := 0) (i := 0) rfl 1 rfl dX5_lays_53 ?_
      refine vv_getR (pc := 54) X (fun _ z => by cases List.mem_singleton.mp z; exact fl_X5_18_3) dX5_lays_54 (fun v9 => ?_)
      refine vv_iload_n (pc := 57) X (kf := 3) (i := 3) rfl 0 rfl dX5_lays_57 ?_
      refine vv_iaload (pc := 58) X dX5_lays_58 (fun v10 => ?_)
      refine vv_iconst (pc := 59) X dX5_lays_59 ?_
      refine vv_icmp_ne (pc := 60) (tgt := 67) X dX5_lays_60 rfl ?_ ?_
      · refine vv_iload_n (pc := 67) X (kf := 2) (i := 2) rfl 3 rfl dX5_lays_67 ?_
        refine vv_aload_n (pc := 68) X (kf := 0) (i := 0) rfl 1 rfl dX5_lays_68 ?_
        refine vv_getR (pc := 69) X (fun _ z => by cases List.mem_singleton.mp z; exact fl_X5_18_3) dX5_lays_69 (fun v11 => ?_)
        refine vv_iload_n (pc := 72) X (kf := 3) (i := 3) rfl 0 rfl dX5_lays_72 ?_
        refine vv_iaload (pc := 73) X dX5_lays_73 (fun v12 => ?_)
        refine vv_isub (pc := 74) X dX5_lays_74 ?_
        exact vv_sub [1, 2, 3, 0] (by rfl) (B_X5_lays_75 X r28 hr28 _ _ _ _ _ _ _ _)
      · exact vv_sub [1, 2, 3, 0] (by rfl) (B_X5_lays_63 X r28 hr28 _ _ _ _ _ _ _)
theorem B_X5_lays_28 {M : hp_M} {G : va_G} {h0 : HP} (X : hp_X M G h0 "RenamedWords$Text" "lays" cX5_lays 4 none [] 0 0) : ∀ (x0 : Option Nat) (x1 : Int) (x2 : Int) (h : HP), vv M G h0 4 (hp_End M G h0) jV h 28 [(0, LR x0), (1, LI x1), (2, LI x2)] [] (b_X5_lays_28 x0 x1 x2 h) := by
  unfold b_X5_lays_28
  generalize FU = n
  induction n with
  | zero => intro x0 x1 x2 h; exact vv_none
  | succ n ih => exact C_X5_lays_28 X _ ih
noncomputable def c_X5_lays_7 (r7 : Option Nat → Int → Int → HP → Option ((Unit) × HP)) (x0 : Option Nat) (x1 : Int) (x2 : Int) (h : HP) : Option ((Unit) × HP) :=
  iLE 26 x2
    (b_X5_lays_28 x0 x1 0 h)
    ((rdR h x0 [3] 2).bind fun v13 =>
    (astI h .int v13 x2 (-1)).bind fun h14 =>
    r7 x0 x1 (x2 + 1) h14)
noncomputable def b_X5_lays_7 : Option Nat → Int → Int → HP → Option ((Unit) × HP) := fx (fun _ _ _ _ => none) (c_X5_lays_7) FU
theorem C_X5_lays_7 {M : hp_M} {G : va_G} {h0 : HP} (X : hp_X M G h0 "RenamedWords$Text" "lays" cX5_lays 4 none [] 0 0) (r7 : Option Nat → Int → Int → HP → Option ((Unit) × HP)) (hr7 : ∀ (y0 : Option Nat) (y1 : Int) (y2 : Int) (h : HP), vv M G h0 4 (hp_End M G h0) jV h 7 [(0, LR y0), (1, LI y1), (2, LI y2)] [] (r7 y0 y1 y2 h)) (x0 : Option Nat) (x1 : Int) (x2 : Int) (h : HP) : vv M G h0 4 (hp_End M G h0) jV h 7 [(0, LR x0), (1, LI x1), (2, LI x2)] [] (c_X5_lays_7 r7 x0 x1 x2 h) := by
  unfold c_X5_lays_7
  refine vv_iload_n (pc := 7) X (kf := 2) (i := 2) rfl 2 rfl dX5_lays_7 ?_
  refine vv_bipush (pc := 8) X (by decide) dX5_lays_8 ?_
  refine vv_icmp_ge (pc := 10) (tgt := 26) X dX5_lays_10 rfl ?_ ?_
  · refine vv_iconst (pc := 26) X dX5_lays_26 ?_
    refine vv_istore_n (pc := 27) (lv' := [(2, LI 0), (0, LR x0), (1, LI x1)]) X (kf := 2) (i := 2) rfl (by decide) rfl dX5_lays_27 ?_
    exact vv_sub [1, 2, 0] (by rfl) (B_X5_lays_28 X _ _ _ _)
  · refine vv_aload_n (pc := 13) X (kf := 0) (i := 0) rfl 0 rfl dX5_lays_13 ?_
    refine vv_getR (pc := 14) X (fun _ z => by cases List.mem_singleton.mp z; exact fl_X5_18_3) dX5_lays_14 (fun v13 => ?_)
    refine vv_iload_n (pc := 17) X (kf := 2) (i := 2) rfl 2 rfl dX5_lays_17 ?_
    refine vv_iconst (pc := 18) X dX5_lays_18 ?_
    refine vv_iastore (pc := 19) X dX5_lays_19 (fun h14 => ?_)
    refine vv_iinc (pc := 20) (lv' := [(2, LI (x2 + 1)), (0, LR x0), (1, LI x1)]) X 2 rfl (by decide) rfl dX5_lays_20 ?_
    refine vv_goto (pc := 23) (tgt := 7) X dX5_lays_23 rfl ?_
    exact vv_sub [1, 2, 0] (by rfl) (hr7 _ _ _ _)
theorem B_X5_lays_7 {M : hp_M} {G : va_G} {h0 : HP} (X : hp_X M G h0 "RenamedWords$Text" "lays" cX5_lays 4 none [] 0 0) : ∀ (x0 : Option Nat) (x1 : Int) (x2 : Int) (h : HP), vv M G h0 4 (hp_End M G h0) jV h 7 [(0, LR x0), (1, LI x1), (2, LI x2)] [] (b_X5_lays_7 x0 x1 x2 h) := by
  unfold b_X5_lays_7
  generalize FU = n
  induction n with
  | zero => intro x0 x1 x2 h; exact vv_none
  | succ n ih => exact C_X5_lays_7 X _ ih
noncomputable def f_X5_lays (a0 : Nat) (a1 : Int) (h : HP) : Option ((Unit) × HP) :=
  (wrI h (some a0) [3] 4 a1).bind fun h1 =>
  b_X5_lays_7 (some a0) a1 0 h1
theorem A_X5_lays {M : hp_M} {G : va_G} {h0 : HP} (X : hp_X M G h0 "RenamedWords$Text" "lays" cX5_lays 4 none [] 0 0) (a0 : Nat) (a1 : Int) (h : HP) : vv M G h0 4 (hp_End M G h0) jV h 0 [(0, LR (some a0)), (1, LI a1)] [] (f_X5_lays a0 a1 h) := by
  unfold f_X5_lays
  refine vv_aload_n (pc := 0) X (kf := 0) (i := 0) rfl 0 rfl dX5_lays_0 ?_
  refine vv_iload_n (pc := 1) X (kf := 1) (i := 1) rfl 1 rfl dX5_lays_1 ?_
  refine vv_putI (pc := 2) (fin := false) X (fun _ z => by cases List.mem_singleton.mp z; exact fl_X5_21_3) (fun z => nomatch z) (fun z => nomatch z) dX5_lays_2 (fun h1 => ?_)
  refine vv_iconst (pc := 5) X dX5_lays_5 ?_
  refine vv_istore_n (pc := 6) (lv' := [(2, LI 0), (0, LR (some a0)), (1, LI a1)]) X (kf := 2) (i := 2) rfl (by decide) rfl dX5_lays_6 ?_
  exact vv_sub [1, 2, 0] (by rfl) (B_X5_lays_7 X _ _ _ _)
theorem m_X5_lays {l : Launch} (hl : l.stackTraces = false) {G : va_G} (a0 : Nat) (a1 : Int) (h : HP) : ∀ r hf, f_X5_lays a0 a1 h = some (r, hf) → Ct l yX5_lays (ws_ yX5_lays cX5_lays 4 none) 0 0 G h [.ref a0, .int (iI a1)] (jV r) hf :=
  zz_ofW hl (by decide +kernel) (lv := [(0, LR (some a0)), (1, LI a1)]) (by simp [lv_args, lvL, lvV, zz_rfc, va_cat1, Value.category]) (by simp [lg_sl, zz_rfc, va_cat1, Value.category]) (fun _ X => A_X5_lays X a0 a1 h)
