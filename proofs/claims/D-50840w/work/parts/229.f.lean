/-! STAGE 1c: functions and contracts (printed by gen/mkfuncs.py). -/
set_option maxRecDepth 100000
set_option linter.unusedVariables false
-- X1_index RenamedWords.index(Z)V
noncomputable def f_X1_index (a1 : Int) (h : HP) : Option ((Nat ⊕ Unit) × HP) :=
  iEQ a1 0
    (hb (nwX h 0 35) fun v1 h2 =>
    (v1).bind fun q3 =>
    some (.inl q3, h2))
    (some (.inr (), h))
theorem A_X1_index {M : hp_M} {G : va_G} {h0 : HP} (X : hp_X M G h0 "RenamedWords" "index" cX1_index 1 none [] 6 97) (a1 : Int) (h : HP) : vv M G h0 1 (hp_End M G h0) xV h 0 [(0, LI a1)] [] (f_X1_index a1 h) := by
  unfold f_X1_index
  refine vv_iload_n (pc := 0) X (kf := 0) (i := 0) rfl 0 rfl dX1_index_0 ?_
  refine vv_if_ne (pc := 1) (tgt := 12) X dX1_index_1 rfl ?_ ?_
  · exact vv_vreturn X rfl rfl dX1_index_12
  · refine vv_newX (pc := 4) (cls := "java/lang/IndexOutOfBoundsException") (names := ["java/lang/RuntimeException", "java/lang/Exception"]) X (by decide +kernel) (by decide +kernel) q3069 q194 nx_X1_index_4 (by decide +kernel) dX1_index_4 dX1_index_7 dX1_index_8 rfl (by decide) (by decide) (Nat.le_of_ble_eq_true rfl) (fun v1 h2 => ?_)
    refine vv_athrow (pc := 11) X dX1_index_11 (fun q3 _ => ?_)
    exact vvx_out X (by decide) rfl
theorem m_X1_index {l : Launch} (hl : l.stackTraces = false) {G : va_G} (a1 : Int) (h : HP) : ∀ r hf, f_X1_index a1 h = some (r, hf) → Ct l yX1_index (ws_ yX1_index cX1_index 1 none) 6 97 G h [.int (iI a1)] (xV r) hf :=
  zz_ofW hl (by decide +kernel) (lv := [(0, LI a1)]) (by simp [lv_args, lvL, lvV, zz_rfc, zz_rfs, zz_ci, zz_cr, zz_cj, zz_cf, zz_cd]) (by simp [lg_sl, zz_rfc, zz_ci, zz_cr, zz_cj, zz_cf, zz_cd]) (fun _ X => A_X1_index X a1 h)
-- X1_placeAt RenamedWords.placeAt(I)V
noncomputable def f_X1_placeAt (a0 : Nat) (a1 : Int) (h : HP) : Option ((Nat ⊕ Unit) × HP) :=
  (rdR h (some a0) [0] 0).bind fun v1 =>
  (rcv h v1 [1]).bind fun b4 =>
  hb (f_X2_isPlace b4 a1 h) fun v2 h3 =>
  hbx (f_X1_index v2 h3) (fun q8 h9 =>
      some (.inl q8, h9)) fun _ h7 =>
  some (.inr (), h7)
theorem A_X1_placeAt {M : hp_M} {G : va_G} {h0 : HP} (X : hp_X M G h0 "RenamedWords" "placeAt" cX1_placeAt 2 none [] 7 125) (a0 : Nat) (a1 : Int) (h : HP) : vv M G h0 2 (hp_End M G h0) xV h 0 [(0, LR (some a0)), (1, LI a1)] [] (f_X1_placeAt a0 a1 h) := by
  unfold f_X1_placeAt
  refine vv_aload_n (pc := 0) X (kf := 0) (i := 0) rfl 0 rfl dX1_placeAt_0 ?_
  refine vv_getR (pc := 1) X (fun _ z => by cases List.mem_singleton.mp z; exact fl_X1_35_0) dX1_placeAt_1 (fun v1 => ?_)
  refine vv_iload_n (pc := 4) X (kf := 1) (i := 1) rfl 1 rfl dX1_placeAt_4 ?_
  refine vv_rcv (fun b4 t9 c9 fs9 e5 g9 k9 => ?_)
  cases List.mem_singleton.mp k9
  refine vv_callI (pc := 5) (rest := []) (by rw [e5]; rfl) (fun r8 k8 e8 => zz_callV X (m_X2_isPlace (hlM X) _ _ _ _ _ e8) g9 rfl rfl q3065 q2584 q2585 q133 q2586 nh_X2 rfl (by decide) (by decide) (Nat.le_of_ble_eq_true rfl) dX1_placeAt_5) (fun v2 h3 => ?_)
  refine vv_xallV (pc := 8) (rest := []) (by rfl) (fun r8 k8 e8 => zz_callS X (m_X1_index (hlM X) _ _ _ _ e8) q3066 q3067 q132 q3068 nh_X1 rfl (by decide) (by decide) (Nat.le_of_ble_eq_true rfl) dX1_placeAt_8) (fun v6 h7 => ?_) (fun q8 h9 => ?_)
  · exact vv_vreturn X rfl rfl dX1_placeAt_11
  · exact vvx_out X (by decide) rfl
theorem m_X1_placeAt {l : Launch} (hl : l.stackTraces = false) {G : va_G} (a0 : Nat) (a1 : Int) (h : HP) : ∀ r hf, f_X1_placeAt a0 a1 h = some (r, hf) → Ct l yX1_placeAt (ws_ yX1_placeAt cX1_placeAt 2 none) 7 125 G h [.ref a0, .int (iI a1)] (xV r) hf :=
  zz_ofW hl (by decide +kernel) (lv := [(0, LR (some a0)), (1, LI a1)]) (by simp [lv_args, lvL, lvV, zz_rfc, zz_rfs, zz_ci, zz_cr, zz_cj, zz_cf, zz_cd]) (by simp [lg_sl, zz_rfc, zz_ci, zz_cr, zz_cj, zz_cf, zz_cd]) (fun _ X => A_X1_placeAt X a0 a1 h)
-- X1_textAt RenamedWords.textAt(I)I
noncomputable def f_X1_textAt (a0 : Nat) (a1 : Int) (h : HP) : Option ((Nat ⊕ Int) × HP) :=
  (rcv h (some a0) [0]).bind fun b3 =>
  hbx (f_X1_placeAt b3 a1 h) (fun q5 h6 =>
      some (.inl q5, h6)) fun _ h2 =>
  (rdR h2 (some a0) [0] 0).bind fun v7 =>
  (rdR h2 v7 [1] 0).bind fun v8 =>
  (rcv h2 v8 [3]).bind fun b11 =>
  hb (f_X5_at b11 a1 h2) fun v9 h10 =>
  some (.inr v9, h10)
theorem A_X1_textAt {M : hp_M} {G : va_G} {h0 : HP} (X : hp_X M G h0 "RenamedWords" "textAt" cX1_textAt 2 (some .int) [] 8 154) (a0 : Nat) (a1 : Int) (h : HP) : vv M G h0 2 (hp_End M G h0) xI h 0 [(0, LR (some a0)), (1, LI a1)] [] (f_X1_textAt a0 a1 h) := by
  unfold f_X1_textAt
  refine vv_aload_n (pc := 0) X (kf := 0) (i := 0) rfl 0 rfl dX1_textAt_0 ?_
  refine vv_iload_n (pc := 1) X (kf := 1) (i := 1) rfl 1 rfl dX1_textAt_1 ?_
  refine vv_rcv (fun b3 t9 c9 fs9 e4 g9 k9 => ?_)
  cases List.mem_singleton.mp k9
  refine vv_xallV (pc := 2) (rest := []) (by rw [e4]; rfl) (fun r8 k8 e8 => zz_callV X (m_X1_placeAt (hlM X) _ _ _ _ _ e8) g9 rfl rfl q3061 q3063 qs46 q132 q3064 nh_X1 rfl (by decide) (by decide) (Nat.le_of_ble_eq_true rfl) dX1_textAt_2) (fun v1 h2 => ?_) (fun q5 h6 => ?_)
  · refine vv_aload_n (pc := 5) X (kf := 0) (i := 0) rfl 0 rfl dX1_textAt_5 ?_
    refine vv_getR (pc := 6) X (fun _ z => by cases List.mem_singleton.mp z; exact fl_X1_35_0) dX1_textAt_6 (fun v7 => ?_)
    refine vv_getR (pc := 9) X (fun _ z => by cases List.mem_singleton.mp z; exact fl_X1_79_1) dX1_textAt_9 (fun v8 => ?_)
    refine vv_iload_n (pc := 12) X (kf := 1) (i := 1) rfl 1 rfl dX1_textAt_12 ?_
    refine vv_rcv (fun b11 t9 c9 fs9 e12 g9 k9 => ?_)
    cases List.mem_singleton.mp k9
    refine vv_callI (pc := 13) (rest := []) (by rw [e12]; rfl) (fun r8 k8 e8 => zz_callV X (m_X5_at (hlM X) _ _ _ _ _ e8) g9 rfl rfl q2963 q2635 q4111 q157 q2636 nh_X5 rfl (by decide) (by decide) (Nat.le_of_ble_eq_true rfl) dX1_textAt_13) (fun v9 h10 => ?_)
    exact vv_iretI X rfl rfl dX1_textAt_16
  · exact vvx_out X (by decide) rfl
theorem m_X1_textAt {l : Launch} (hl : l.stackTraces = false) {G : va_G} (a0 : Nat) (a1 : Int) (h : HP) : ∀ r hf, f_X1_textAt a0 a1 h = some (r, hf) → Ct l yX1_textAt (ws_ yX1_textAt cX1_textAt 2 (some .int)) 8 154 G h [.ref a0, .int (iI a1)] (xI r) hf :=
  zz_ofW hl (by decide +kernel) (lv := [(0, LR (some a0)), (1, LI a1)]) (by simp [lv_args, lvL, lvV, zz_rfc, zz_rfs, zz_ci, zz_cr, zz_cj, zz_cf, zz_cd]) (by simp [lg_sl, zz_rfc, zz_ci, zz_cr, zz_cj, zz_cf, zz_cd]) (fun _ X => A_X1_textAt X a0 a1 h)
-- X0_textAt RenamedWordsLaw.textAt(LRenamedWords;I[J)I
noncomputable def b_X0_textAt_12 (s0 : Option Nat) (h : HP) : Option ((Int) × HP) :=
  some (1, h)
theorem B_X0_textAt_12 {M : hp_M} {G : va_G} {h0 : HP} (X : hp_X M G h0 "RenamedWordsLaw" "textAt" cX0_textAt 4 (some .int) (tableOf [(0, 9, 12, 18)]) 9 183) (s0 : Option Nat) (h : HP) : vv M G h0 4 (hp_End M G h0) jI h 12 [] [LR s0] (b_X0_textAt_12 s0 h) := by
  unfold b_X0_textAt_12
  refine vv_astore_n (pc := 12) (lv' := [(3, LR s0)]) X (kf := 3) (i := 3) rfl (by decide) rfl dX0_textAt_12 ?_
  refine vv_iconst (pc := 13) X dX0_textAt_13 ?_
  exact vv_iretI X rfl rfl dX0_textAt_14
noncomputable def f_X0_textAt (a1 : Option Nat) (a2 : Int) (a3 : Option Nat) (h : HP) : Option ((Int) × HP) :=
  (rcv h a1 [0]).bind fun b3 =>
  hbx (f_X1_textAt b3 a2 h) (fun q5 h6 =>
      (clsOf h6 q5).bind fun c7 =>
      if c7 = 35 then
        b_X0_textAt_12 (some q5) h6
      else
        none) fun v1 h2 =>
  (astJ h2 a3 0 (iL v1)).bind fun h8 =>
  some (0, h8)
theorem A_X0_textAt {M : hp_M} {G : va_G} {h0 : HP} (X : hp_X M G h0 "RenamedWordsLaw" "textAt" cX0_textAt 4 (some .int) (tableOf [(0, 9, 12, 18)]) 9 183) (a1 : Option Nat) (a2 : Int) (a3 : Option Nat) (h : HP) : vv M G h0 4 (hp_End M G h0) jI h 0 [(0, LR a1), (1, LI a2), (2, LR a3)] [] (f_X0_textAt a1 a2 a3 h) := by
  unfold f_X0_textAt
  refine vv_aload_n (pc := 0) X (kf := 2) (i := 2) rfl 2 rfl dX0_textAt_0 ?_
  refine vv_iconst (pc := 1) X dX0_textAt_1 ?_
  refine vv_aload_n (pc := 2) X (kf := 0) (i := 0) rfl 0 rfl dX0_textAt_2 ?_
  refine vv_iload_n (pc := 3) X (kf := 1) (i := 1) rfl 1 rfl dX0_textAt_3 ?_
  refine vv_rcv (fun b3 t9 c9 fs9 e4 g9 k9 => ?_)
  cases List.mem_singleton.mp k9
  refine vv_xallI (pc := 4) (rest := [LI 0, LR a3]) (by rw [e4]; rfl) (fun r8 k8 e8 => zz_callV X (m_X1_textAt (hlM X) _ _ _ _ _ e8) g9 rfl rfl q3057 q3058 q3059 q132 q3060 nh_X1 rfl (by decide) (by decide) (Nat.le_of_ble_eq_true rfl) dX0_textAt_4) (fun v1 h2 => ?_) (fun q5 h6 => ?_)
  · refine vv_i2l (pc := 7) X dX0_textAt_7 ?_
    refine vv_lastore (pc := 8) X dX0_textAt_8 (fun h8 => ?_)
    refine vv_goto (pc := 9) (tgt := 15) X dX0_textAt_9 rfl ?_
    refine vv_iconst (pc := 15) X dX0_textAt_15 ?_
    exact vv_iretI X rfl rfl dX0_textAt_16
  · refine vvx_cls (fun _ c7 _ g9 => ?_)
    refine vvx_if (fun e9 => ?_) (fun _ => ?_)
    · subst e9
      refine vvx_catch X g9 rfl [] ⟨0, 9, 12, 18⟩ [] rfl (fun z hz => nomatch hz) rfl (by decide) q3041 q2274 ?_
      exact vv_sub [] (by rfl) (B_X0_textAt_12 X _ _)
    · exact vvx_none
theorem m_X0_textAt {l : Launch} (hl : l.stackTraces = false) {G : va_G} (a1 : Option Nat) (a2 : Int) (a3 : Option Nat) (h : HP) : ∀ r hf, f_X0_textAt a1 a2 a3 h = some (r, hf) → Ct l yX0_textAt (wsW_ yX0_textAt cX0_textAt 4 (some .int) [(0, 9, 12, 18)]) 9 183 G h [va_rf a1, .int (iI a2), va_rf a3] (jI r) hf :=
  zz_ofWH hl (by decide +kernel) (lv := [(0, LR a1), (1, LI a2), (2, LR a3)]) (by simp [lv_args, lvL, lvV, zz_rfc, zz_rfs, zz_ci, zz_cr, zz_cj, zz_cf, zz_cd]) (by simp [lg_sl, zz_rfc, zz_ci, zz_cr, zz_cj, zz_cf, zz_cd]) (fun _ X => A_X0_textAt X a1 a2 a3 h)
-- X9_noPlace RenamedWordsModel.noPlace(I)Z
noncomputable def b_X9_noPlace_22 (s0 : Int) (s1 : Option Nat) (h : HP) : Option ((Int) × HP) :=
  (rcv h s1 [7]).bind fun b7 =>
  hb (f_X9_fails b7 s0 1 h) fun v5 h6 =>
  rtZ v5 (some (v5, h6))
theorem B_X9_noPlace_22 {M : hp_M} {G : va_G} {h0 : HP} (X : hp_X M G h0 "RenamedWordsModel" "noPlace" cX9_noPlace 2 (some .boolean) [] 1 30) (s0 : Int) (s1 : Option Nat) (h : HP) : vv M G h0 2 (hp_End M G h0) jI h 22 [] [LI s0, LR s1] (b_X9_noPlace_22 s0 s1 h) := by
  unfold b_X9_noPlace_22
  refine vv_iconst (pc := 22) X dX9_noPlace_22 ?_
  refine vv_rcv (fun b7 t9 c9 fs9 e8 g9 k9 => ?_)
  cases List.mem_singleton.mp k9
  refine vv_callI (pc := 23) (rest := []) (by rw [e8]; rfl) (fun r8 k8 e8 => zz_callV X (m_X9_fails (hlM X) _ _ _ _ _ _ e8) g9 rfl rfl q3841 q3843 qs109 q164 q3844 nh_X9 rfl (by decide) (by decide) (Nat.le_of_ble_eq_true rfl) dX9_noPlace_23) (fun v5 h6 => ?_)
  exact vv_iretZ X rfl rfl dX9_noPlace_26
noncomputable def f_X9_noPlace (a0 : Nat) (a1 : Int) (h : HP) : Option ((Int) × HP) :=
  (rdR h (some a0) [7] 0).bind fun v1 =>
  (aldI h .int v1 1).bind fun v2 =>
  hb (f_X9_in a1 0 (v2 - 1) h) fun v3 h4 =>
  iEQ v3 0
    (b_X9_noPlace_22 1 (some a0) h4)
    (b_X9_noPlace_22 0 (some a0) h4)
theorem A_X9_noPlace {M : hp_M} {G : va_G} {h0 : HP} (X : hp_X M G h0 "RenamedWordsModel" "noPlace" cX9_noPlace 2 (some .boolean) [] 1 30) (a0 : Nat) (a1 : Int) (h : HP) : vv M G h0 2 (hp_End M G h0) jI h 0 [(0, LR (some a0)), (1, LI a1)] [] (f_X9_noPlace a0 a1 h) := by
  unfold f_X9_noPlace
  refine vv_aload_n (pc := 0) X (kf := 0) (i := 0) rfl 0 rfl dX9_noPlace_0 ?_
  refine vv_iload_n (pc := 1) X (kf := 1) (i := 1) rfl 1 rfl dX9_noPlace_1 ?_
  refine vv_iconst (pc := 2) X dX9_noPlace_2 ?_
  refine vv_aload_n (pc := 3) X (kf := 0) (i := 0) rfl 0 rfl dX9_noPlace_3 ?_
  refine vv_getR (pc := 4) X (fun _ z => by cases List.mem_singleton.mp z; exact fl_X9_9_7) dX9_noPlace_4 (fun v1 => ?_)
  refine vv_iconst (pc := 7) X dX9_noPlace_7 ?_
  refine vv_iaload (pc := 8) X dX9_noPlace_8 (fun v2 => ?_)
  refine vv_iconst (pc := 9) X dX9_noPlace_9 ?_
  refine vv_isub (pc := 10) X dX9_noPlace_10 ?_
  refine vv_callI (pc := 11) (rest := [LR (some a0)]) (by rfl) (fun r8 k8 e8 => zz_callS X (m_X9_in (hlM X) _ _ _ _ _ _ e8) q3593 q3594 q164 q3595 nh_X9 rfl (by decide) (by decide) (Nat.le_of_ble_eq_true rfl) dX9_noPlace_11) (fun v3 h4 => ?_)
  refine vv_if_ne (pc := 14) (tgt := 21) X dX9_noPlace_14 rfl ?_ ?_
  · refine vv_iconst (pc := 21) X dX9_noPlace_21 ?_
    exact vv_sub [] (by rfl) (B_X9_noPlace_22 X _ _ _)
  · refine vv_iconst (pc := 17) X dX9_noPlace_17 ?_
    refine vv_goto (pc := 18) (tgt := 22) X dX9_noPlace_18 rfl ?_
    exact vv_sub [] (by rfl) (B_X9_noPlace_22 X _ _ _)
theorem m_X9_noPlace {l : Launch} (hl : l.stackTraces = false) {G : va_G} (a0 : Nat) (a1 : Int) (h : HP) : ∀ r hf, f_X9_noPlace a0 a1 h = some (r, hf) → Ct l yX9_noPlace (ws_ yX9_noPlace cX9_noPlace 2 (some .boolean)) 1 30 G h [.ref a0, .int (iI a1)] (jI r) hf :=
  zz_ofW hl (by decide +kernel) (lv := [(0, LR (some a0)), (1, LI a1)]) (by simp [lv_args, lvL, lvV, zz_rfc, zz_rfs, zz_ci, zz_cr, zz_cj, zz_cf, zz_cd]) (by simp [lg_sl, zz_rfc, zz_ci, zz_cr, zz_cj, zz_cf, zz_cd]) (fun _ X => A_X9_noPlace X a0 a1 h)
-- X9_textAt RenamedWordsModel.textAt(I)I
noncomputable def b_X9_textAt_26 (s0 : Int) (h : HP) : Option ((Int) × HP) :=
  some (s0, h)
theorem B_X9_textAt_26 {M : hp_M} {G : va_G} {h0 : HP} (X : hp_X M G h0 "RenamedWordsModel" "textAt" cX9_textAt 2 (some .int) [] 2 59) (s0 : Int) (h : HP) : vv M G h0 2 (hp_End M G h0) jI h 26 [] [LI s0] (b_X9_textAt_26 s0 h) := by
  unfold b_X9_textAt_26
  exact vv_iretI X rfl rfl dX9_textAt_26
noncomputable def f_X9_textAt (a0 : Nat) (a1 : Int) (h : HP) : Option ((Int) × HP) :=
  (wrI h (some a0) [7] 7 0).bind fun h1 =>
  (rcv h1 (some a0) [7]).bind fun b4 =>
  hb (f_X9_noPlace b4 a1 h1) fun v2 h3 =>
  iEQ v2 0
    ((rdR h3 (some a0) [7] 0).bind fun v6 =>
    (aldI h3 .int v6 (16 + a1)).bind fun v7 =>
    b_X9_textAt_26 v7 h3)
    (b_X9_textAt_26 0 h3)
theorem A_X9_textAt {M : hp_M} {G : va_G} {h0 : HP} (X : hp_X M G h0 "RenamedWordsModel" "textAt" cX9_textAt 2 (some .int) [] 2 59) (a0 : Nat) (a1 : Int) (h : HP) : vv M G h0 2 (hp_End M G h0) jI h 0 [(0, LR (some a0)), (1, LI a1)] [] (f_X9_textAt a0 a1 h) := by
  unfold f_X9_textAt
  refine vv_aload_n (pc := 0) X (kf := 0) (i := 0) rfl 0 rfl dX9_textAt_0 ?_
  refine vv_iconst (pc := 1) X dX9_textAt_1 ?_
  refine vv_putI (pc := 2) (fin := false) X (fun _ z => by cases List.mem_singleton.mp z; exact fl_X9_69_7) (fun z => nomatch z) (fun z => nomatch z) dX9_textAt_2 (fun h1 => ?_)
  refine vv_aload_n (pc := 5) X (kf := 0) (i := 0) rfl 0 rfl dX9_textAt_5 ?_
  refine vv_iload_n (pc := 6) X (kf := 1) (i := 1) rfl 1 rfl dX9_textAt_6 ?_
  refine vv_rcv (fun b4 t9 c9 fs9 e5 g9 k9 => ?_)
  cases List.mem_singleton.mp k9
  refine vv_callI (pc := 7) (rest := []) (by rw [e5]; rfl) (fun r8 k8 e8 => zz_callV X (m_X9_noPlace (hlM X) _ _ _ _ _ e8) g9 rfl rfl q3860 q3862 qs112 q164 q3863 nh_X9 rfl (by decide) (by decide) (Nat.le_of_ble_eq_true rfl) dX9_textAt_7) (fun v2 h3 => ?_)
  refine vv_if_eq (pc := 10) (tgt := 17) X dX9_textAt_10 rfl ?_ ?_
  · refine vv_aload_n (pc := 17) X (kf := 0) (i := 0) rfl 0 rfl dX9_textAt_17 ?_
    refine vv_getR (pc := 18) X (fun _ z => by cases List.mem_singleton.mp z; exact fl_X9_9_7) dX9_textAt_18 (fun v6 => ?_)
    refine vv_bipush (pc := 21) X (by decide) dX9_textAt_21 ?_
    refine vv_iload_n (pc := 23) X (kf := 1) (i := 1) rfl 1 rfl dX9_textAt_23 ?_
    refine vv_iadd (pc := 24) X dX9_textAt_24 ?_
    refine vv_iaload (pc := 25) X dX9_textAt_25 (fun v7 => ?_)
    exact vv_sub [] (by rfl) (B_X9_textAt_26 X _ _)
  · refine vv_iconst (pc := 13) X dX9_textAt_13 ?_
    refine vv_goto (pc := 14) (tgt := 26) X dX9_textAt_14 rfl ?_
    exact vv_sub [] (by rfl) (B_X9_textAt_26 X _ _)
theorem m_X9_textAt {l : Launch} (hl : l.stackTraces = false) {G : va_G} (a0 : Nat) (a1 : Int) (h : HP) : ∀ r hf, f_X9_textAt a0 a1 h = some (r, hf) → Ct l yX9_textAt (ws_ yX9_textAt cX9_textAt 2 (some .int)) 2 59 G h [.ref a0, .int (iI a1)] (jI r) hf :=
  zz_ofW hl (by decide +kernel) (lv := [(0, LR (some a0)), (1, LI a1)]) (by simp [lv_args, lvL, lvV, zz_rfc, zz_rfs, zz_ci, zz_cr, zz_cj, zz_cf, zz_cd]) (by simp [lg_sl, zz_rfc, zz_ci, zz_cr, zz_cj, zz_cf, zz_cd]) (fun _ X => A_X9_textAt X a0 a1 h)
-- X1_back RenamedWords.back(I)I
noncomputable def f_X1_back (a0 : Nat) (a1 : Int) (h : HP) : Option ((Nat ⊕ Int) × HP) :=
  (rcv h (some a0) [0]).bind fun b3 =>
  hbx (f_X1_placeAt b3 a1 h) (fun q5 h6 =>
      some (.inl q5, h6)) fun _ h2 =>
  (rdR h2 (some a0) [0] 0).bind fun v7 =>
  (rdR h2 v7 [1] 0).bind fun v8 =>
  (rdR h2 (some a0) [0] 0).bind fun v9 =>
  (rdI h2 v9 [1] 7).bind fun v10 =>
  (rcv h2 v8 [3]).bind fun b13 =>
  hb (f_X5_back b13 a1 v10 h2) fun v11 h12 =>
  some (.inr v11, h12)
theorem A_X1_back {M : hp_M} {G : va_G} {h0 : HP} (X : hp_X M G h0 "RenamedWords" "back" cX1_back 2 (some .int) [] 8 154) (a0 : Nat) (a1 : Int) (h : HP) : vv M G h0 2 (hp_End M G h0) xI h 0 [(0, LR (some a0)), (1, LI a1)] [] (f_X1_back a0 a1 h) := by
  unfold f_X1_back
  refine vv_aload_n (pc := 0) X (kf := 0) (i := 0) rfl 0 rfl dX1_back_0 ?_
  refine vv_iload_n (pc := 1) X (kf := 1) (i := 1) rfl 1 rfl dX1_back_1 ?_
  refine vv_rcv (fun b3 t9 c9 fs9 e4 g9 k9 => ?_)
  cases List.mem_singleton.mp k9
  refine vv_xallV (pc := 2) (rest := []) (by rw [e4]; rfl) (fun r8 k8 e8 => zz_callV X (m_X1_placeAt (hlM X) _ _ _ _ _ e8) g9 rfl rfl q3061 q3063 qs46 q132 q3064 nh_X1 rfl (by decide) (by decide) (Nat.le_of_ble_eq_true rfl) dX1_back_2) (fun v1 h2 => ?_) (fun q5 h6 => ?_)
  · refine vv_aload_n (pc := 5) X (kf := 0) (i := 0) rfl 0 rfl dX1_back_5 ?_
    refine vv_getR (pc := 6) X (fun _ z => by cases List.mem_singleton.mp z; exact fl_X1_35_0) dX1_back_6 (fun v7 => ?_)
    refine vv_getR (pc := 9) X (fun _ z => by cases List.mem_singleton.mp z; exact fl_X1_79_1) dX1_back_9 (fun v8 => ?_)
    refine vv_iload_n (pc := 12) X (kf := 1) (i := 1) rfl 1 rfl dX1_back_12 ?_
    refine vv_aload_n (pc := 13) X (kf := 0) (i := 0) rfl 0 rfl dX1_back_13 ?_
    refine vv_getR (pc := 14) X (fun _ z => by cases List.mem_singleton.mp z; exact fl_X1_35_0) dX1_back_14 (fun v9 => ?_)
    refine vv_getI (pc := 17) X (fun _ z => by cases List.mem_singleton.mp z; exact fl_X1_189_1) dX1_back_17 (fun v10 => ?_)
    refine vv_rcv (fun b13 t9 c9 fs9 e14 g9 k9 => ?_)
    cases List.mem_singleton.mp k9
    refine vv_callI (pc := 20) (rest := []) (by rw [e14]; rfl) (fun r8 k8 e8 => zz_callV X (m_X5_back (hlM X) _ _ _ _ _ _ e8) g9 rfl rfl q2846 q2649 q4112 q157 q2650 nh_X5 rfl (by decide) (by decide) (Nat.le_of_ble_eq_true rfl) dX1_back_20) (fun v11 h12 => ?_)
    exact vv_iretI X rfl rfl dX1_back_23
  · exact vvx_out X (by decide) rfl
theorem m_X1_back {l : Launch} (hl : l.stackTraces = false) {G : va_G} (a0 : Nat) (a1 : Int) (h : HP) : ∀ r hf, f_X1_back a0 a1 h = some (r, hf) → Ct l yX1_back (ws_ yX1_back cX1_back 2 (some .int)) 8 154 G h [.ref a0, .int (iI a1)] (xI r) hf :=
  zz_ofW hl (by decide +kernel) (lv := [(0, LR (some a0)), (1, LI a1)]) (by simp [lv_args, lvL, lvV, zz_rfc, zz_rfs, zz_ci, zz_cr, zz_cj, zz_cf, zz_cd]) (by simp [lg_sl, zz_rfc, zz_ci, zz_cr, zz_cj, zz_cf, zz_cd]) (fun _ X => A_X1_back X a0 a1 h)
-- X0_back RenamedWordsLaw.back(LRenamedWords;I[J)I
noncomputable def b_X0_back_12 (s0 : Option Nat) (h : HP) : Option ((Int) × HP) :=
  some (1, h)
theorem B_X0_back_12 {M : hp_M} {G : va_G} {h0 : HP} (X : hp_X M G h0 "RenamedWordsLaw" "back" cX0_back 4 (some .int) (tableOf [(0, 9, 12, 18)]) 9 183) (s0 : Option Nat) (h : HP) : vv M G h0 4 (hp_End M G h0) jI h 12 [] [LR s0] (b_X0_back_12 s0 h) := by
  unfold b_X0_back_12
  refine vv_astore_n (pc := 12) (lv' := [(3, LR s0)]) X (kf := 3) (i := 3) rfl (by decide) rfl dX0_back_12 ?_
  refine vv_iconst (pc := 13) X dX0_back_13 ?_
  exact vv_iretI X rfl rfl dX0_back_14
noncomputable def f_X0_back (a1 : Option Nat) (a2 : Int) (a3 : Option Nat) (h : HP) : Option ((Int) × HP) :=
  (rcv h a1 [0]).bind fun b3 =>
  hbx (f_X1_back b3 a2 h) (fun q5 h6 =>
      (clsOf h6 q5).bind fun c7 =>
      if c7 = 35 then
        b_X0_back_12 (some q5) h6
      else
        none) fun v1 h2 =>
  (astJ h2 a3 0 (iL v1)).bind fun h8 =>
  some (0, h8)
theorem A_X0_back {M : hp_M} {G : va_G} {h0 : HP} (X : hp_X M G h0 "RenamedWordsLaw" "back" cX0_back 4 (some .int) (tableOf [(0, 9, 12, 18)]) 9 183) (a1 : Option Nat) (a2 : Int) (a3 : Option Nat) (h : HP) : vv M G h0 4 (hp_End M G h0) jI h 0 [(0, LR a1), (1, LI a2), (2, LR a3)] [] (f_X0_back a1 a2 a3 h) := by
  unfold f_X0_back
  refine vv_aload_n (pc := 0) X (kf := 2) (i := 2) rfl 2 rfl dX0_back_0 ?_
  refine vv_iconst (pc := 1) X dX0_back_1 ?_
  refine vv_aload_n (pc := 2) X (kf := 0) (i := 0) rfl 0 rfl dX0_back_2 ?_
  refine vv_iload_n (pc := 3) X (kf := 1) (i := 1) rfl 1 rfl dX0_back_3 ?_
  refine vv_rcv (fun b3 t9 c9 fs9 e4 g9 k9 => ?_)
  cases List.mem_singleton.mp k9
  refine vv_xallI (pc := 4) (rest := [LI 0, LR a3]) (by rw [e4]; rfl) (fun r8 k8 e8 => zz_callV X (m_X1_back (hlM X) _ _ _ _ _ e8) g9 rfl rfl q3077 q3078 q3079 q132 q3080 nh_X1 rfl (by decide) (by decide) (Nat.le_of_ble_eq_true rfl) dX0_back_4) (fun v1 h2 => ?_) (fun q5 h6 => ?_)
  · refine vv_i2l (pc := 7) X dX0_back_7 ?_
    refine vv_lastore (pc := 8) X dX0_back_8 (fun h8 => ?_)
    refine vv_goto (pc := 9) (tgt := 15) X dX0_back_9 rfl ?_
    refine vv_iconst (pc := 15) X dX0_back_15 ?_
    exact vv_iretI X rfl rfl dX0_back_16
  · refine vvx_cls (fun _ c7 _ g9 => ?_)
    refine vvx_if (fun e9 => ?_) (fun _ => ?_)
    · subst e9
      refine vvx_catch X g9 rfl [] ⟨0, 9, 12, 18⟩ [] rfl (fun z hz => nomatch hz) rfl (by decide) q3041 q2274 ?_
      exact vv_sub [] (by rfl) (B_X0_back_12 X _ _)
    · exact vvx_none
theorem m_X0_back {l : Launch} (hl : l.stackTraces = false) {G : va_G} (a1 : Option Nat) (a2 : Int) (a3 : Option Nat) (h : HP) : ∀ r hf, f_X0_back a1 a2 a3 h = some (r, hf) → Ct l yX0_back (wsW_ yX0_back cX0_back 4 (some .int) [(0, 9, 12, 18)]) 9 183 G h [va_rf a1, .int (iI a2), va_rf a3] (jI r) hf :=
  zz_ofWH hl (by decide +kernel) (lv := [(0, LR a1), (1, LI a2), (2, LR a3)]) (by simp [lv_args, lvL, lvV, zz_rfc, zz_rfs, zz_ci, zz_cr, zz_cj, zz_cf, zz_cd]) (by simp [lg_sl, zz_rfc, zz_ci, zz_cr, zz_cj, zz_cf, zz_cd]) (fun _ X => A_X0_back X a1 a2 a3 h)
-- X9_back RenamedWordsModel.back(I)I
noncomputable def b_X9_back_24 (s0 : Int) (h : HP) : Option ((Int) × HP) :=
  some (s0, h)
theorem B_X9_back_24 {M : hp_M} {G : va_G} {h0 : HP} (X : hp_X M G h0 "RenamedWordsModel" "back" cX9_back 2 (some .int) [] 2 61) (s0 : Int) (h : HP) : vv M G h0 2 (hp_End M G h0) jI h 24 [] [LI s0] (b_X9_back_24 s0 h) := by
  unfold b_X9_back_24
  exact vv_iretI X rfl rfl dX9_back_24
noncomputable def f_X9_back (a0 : Nat) (a1 : Int) (h : HP) : Option ((Int) × HP) :=
  (wrI h (some a0) [7] 7 0).bind fun h1 =>
  (rcv h1 (some a0) [7]).bind fun b4 =>
  hb (f_X9_noPlace b4 a1 h1) fun v2 h3 =>
  iEQ v2 0
    ((rcv h3 (some a0) [7]).bind fun b8 =>
    hb (f_X9_backOf b8 16 a1 h3) fun v6 h7 =>
    b_X9_back_24 v6 h7)
    (b_X9_back_24 0 h3)
theorem A_X9_back {M : hp_M} {G : va_G} {h0 : HP} (X : hp_X M G h0 "RenamedWordsModel" "back" cX9_back 2 (some .int) [] 2 61) (a0 : Nat) (a1 : Int) (h : HP) : vv M G h0 2 (hp_End M G h0) jI h 0 [(0, LR (some a0)), (1, LI a1)] [] (f_X9_back a0 a1 h) := by
  unfold f_X9_back
  refine vv_aload_n (pc := 0) X (kf := 0) (i := 0) rfl 0 rfl dX9_back_0 ?_
  refine vv_iconst (pc := 1) X dX9_back_1 ?_
  refine vv_putI (pc := 2) (fin := false) X (fun _ z => by cases List.mem_singleton.mp z; exact fl_X9_69_7) (fun z => nomatch z) (fun z => nomatch z) dX9_back_2 (fun h1 => ?_)
  refine vv_aload_n (pc := 5) X (kf := 0) (i := 0) rfl 0 rfl dX9_back_5 ?_
  refine vv_iload_n (pc := 6) X (kf := 1) (i := 1) rfl 1 rfl dX9_back_6 ?_
  refine vv_rcv (fun b4 t9 c9 fs9 e5 g9 k9 => ?_)
  cases List.mem_singleton.mp k9
  refine vv_callI (pc := 7) (rest := []) (by rw [e5]; rfl) (fun r8 k8 e8 => zz_callV X (m_X9_noPlace (hlM X) _ _ _ _ _ e8) g9 rfl rfl q3860 q3862 qs112 q164 q3863 nh_X9 rfl (by decide) (by decide) (Nat.le_of_ble_eq_true rfl) dX9_back_7) (fun v2 h3 => ?_)
  refine vv_if_eq (pc := 10) (tgt := 17) X dX9_back_10 rfl ?_ ?_
  · refine vv_aload_n (pc := 17) X (kf := 0) (i := 0) rfl 0 rfl dX9_back_17 ?_
    refine vv_bipush (pc := 18) X (by decide) dX9_back_18 ?_
    refine vv_iload_n (pc := 20) X (kf := 1) (i := 1) rfl 1 rfl dX9_back_20 ?_
    refine vv_rcv (fun b8 t9 c9 fs9 e9 g9 k9 => ?_)
    cases List.mem_singleton.mp k9
    refine vv_callI (pc := 21) (rest := []) (by rw [e9]; rfl) (fun r8 k8 e8 => zz_callV X (m_X9_backOf (hlM X) _ _ _ _ _ _ e8) g9 rfl rfl q3793 q3795 qs98 q164 q3796 nh_X9 rfl (by decide) (by decide) (Nat.le_of_ble_eq_true rfl) dX9_back_21) (fun v6 h7 => ?_)
    exact vv_sub [] (by rfl) (B_X9_back_24 X _ _)
  · refine vv_iconst (pc := 13) X dX9_back_13 ?_
    refine vv_goto (pc := 14) (tgt := 24) X dX9_back_14 rfl ?_
    exact vv_sub [] (by rfl) (B_X9_back_24 X _ _)
theorem m_X9_back {l : Launch} (hl : l.stackTraces = false) {G : va_G} (a0 : Nat) (a1 : Int) (h : HP) : ∀ r hf, f_X9_back a0 a1 h = some (r, hf) → Ct l yX9_back (ws_ yX9_back cX9_back 2 (some .int)) 2 61 G h [.ref a0, .int (iI a1)] (jI r) hf :=
  zz_ofW hl (by decide +kernel) (lv := [(0, LR (some a0)), (1, LI a1)]) (by simp [lv_args, lvL, lvV, zz_rfc, zz_rfs, zz_ci, zz_cr, zz_cj, zz_cf, zz_cd]) (by simp [lg_sl, zz_rfc, zz_ci, zz_cr, zz_cj, zz_cf, zz_cd]) (fun _ X => A_X9_back X a0 a1 h)
-- X1_argument RenamedWords.argument(Z)V
noncomputable def f_X1_argument (a1 : Int) (h : HP) : Option ((Nat ⊕ Unit) × HP) :=
  iEQ a1 0
    (hb (nwX h 0 36) fun v1 h2 =>
    (v1).bind fun q3 =>
    some (.inl q3, h2))
    (some (.inr (), h))
theorem A_X1_argument {M : hp_M} {G : va_G} {h0 : HP} (X : hp_X M G h0 "RenamedWords" "argument" cX1_argument 1 none [] 6 97) (a1 : Int) (h : HP) : vv M G h0 1 (hp_End M G h0) xV h 0 [(0, LI a1)] [] (f_X1_argument a1 h) := by
  unfold f_X1_argument
  refine vv_iload_n (pc := 0) X (kf := 0) (i := 0) rfl 0 rfl dX1_argument_0 ?_
  refine vv_if_ne (pc := 1) (tgt := 12) X dX1_argument_1 rfl ?_ ?_
  · exact vv_vreturn X rfl rfl dX1_argument_12
  · refine vv_newX (pc := 4) (cls := "java/lang/IllegalArgumentException") (names := ["java/lang/RuntimeException", "java/lang/Exception"]) X (by decide +kernel) (by decide +kernel) q3033 q143 nx_X1_argument_4 (by decide +kernel) dX1_argument_4 dX1_argument_7 dX1_argument_8 rfl (by decide) (by decide) (Nat.le_of_ble_eq_true rfl) (fun v1 h2 => ?_)
    refine vv_athrow (pc := 11) X dX1_argument_11 (fun q3 _ => ?_)
    exact vvx_out X (by decide) rfl
theorem m_X1_argument {l : Launch} (hl : l.stackTraces = false) {G : va_G} (a1 : Int) (h : HP) : ∀ r hf, f_X1_argument a1 h = some (r, hf) → Ct l yX1_argument (ws_ yX1_argument cX1_argument 1 none) 6 97 G h [.int (iI a1)] (xV r) hf :=
  zz_ofW hl (by decide +kernel) (lv := [(0, LI a1)]) (by simp [lv_args, lvL, lvV, zz_rfc, zz_rfs, zz_ci, zz_cr, zz_cj, zz_cf, zz_cd]) (by simp [lg_sl, zz_rfc, zz_ci, zz_cr, zz_cj, zz_cf, zz_cd]) (fun _ X => A_X1_argument X a1 h)
-- X1_backIn RenamedWords.backIn(II)I
noncomputable def b_X1_backIn_34 (x0 : Option Nat) (x1 : Int) (x2 : Int) (s0 : Int) (h : HP) : Option ((Nat ⊕ Int) × HP) :=
  hbx (f_X1_argument s0 h) (fun q11 h12 =>
      some (.inl q11, h12)) fun _ h10 =>
  (rdR h10 x0 [0] 0).bind fun v13 =>
  (rdR h10 v13 [1] 5).bind fun v14 =>
  (rdR h10 x0 [0] 0).bind fun v15 =>
  (rdR h10 v15 [1] 0).bind fun v16 =>
  (rcv h10 v14 [5]).bind fun b19 =>
  hb (f_X7_lays b19 v16 x1 x2 h10) fun v17 h18 =>
  (rdR h18 x0 [0] 0).bind fun v21 =>
  (rdI h18 v21 [1] 7).bind fun v22 =>
  (rcv h18 v17 [5]).bind fun b25 =>
  hb (f_X7_back b25 (x2 - 1) v22 h18) fun v23 h24 =>
  some (.inr v23, h24)
theorem B_X1_backIn_34 {M : hp_M} {G : va_G} {h0 : HP} (X : hp_X M G h0 "RenamedWords" "backIn" cX1_backIn 3 (some .int) [] 8 154) (x0 : Option Nat) (x1 : Int) (x2 : Int) (s0 : Int) (h : HP) : vv M G h0 3 (hp_End M G h0) xI h 34 [(0, LR x0), (1, LI x1), (2, LI x2)] [LI s0] (b_X1_backIn_34 x0 x1 x2 s0 h) := by
  unfold b_X1_backIn_34
  refine vv_xallV (pc := 34) (rest := []) (by rfl) (fun r8 k8 e8 => zz_callS X (m_X1_argument (hlM X) _ _ _ _ e8) q3090 q3091 q132 q3092 nh_X1 rfl (by decide) (by decide) (Nat.le_of_ble_eq_true rfl) dX1_backIn_34) (fun v9 h10 => ?_) (fun q11 h12 => ?_)
  · refine vv_aload_n (pc := 37) X (kf := 0) (i := 0) rfl 0 rfl dX1_backIn_37 ?_
    refine vv_getR (pc := 38) X (fun _ z => by cases List.mem_singleton.mp z; exact fl_X1_35_0) dX1_backIn_38 (fun v13 => ?_)
    refine vv_getR (pc := 41) X (fun _ z => by cases List.mem_singleton.mp z; exact fl_X1_233_1) dX1_backIn_41 (fun v14 => ?_)
    refine vv_aload_n (pc := 44) X (kf := 0) (i := 0) rfl 0 rfl dX1_backIn_44 ?_
    refine vv_getR (pc := 45) X (fun _ z => by cases List.mem_singleton.mp z; exact fl_X1_35_0) dX1_backIn_45 (fun v15 => ?_)
    refine vv_getR (pc := 48) X (fun _ z => by cases List.mem_singleton.mp z; exact fl_X1_79_1) dX1_backIn_48 (fun v16 => ?_)
    refine vv_iload_n (pc := 51) X (kf := 1) (i := 1) rfl 1 rfl dX1_backIn_51 ?_
    refine vv_iload_n (pc := 52) X (kf := 2) (i := 2) rfl 2 rfl dX1_backIn_52 ?_
    refine vv_rcv (fun b19 t9 c9 fs9 e20 g9 k9 => ?_)
    cases List.mem_singleton.mp k9
    refine vv_callR (pc := 53) (rest := []) (by rw [e20]; rfl) (fun r8 k8 e8 => zz_callV X (m_X7_lays (hlM X) _ _ _ _ _ _ _ e8) g9 rfl rfl q3093 q2605 q2606 q159 q2607 nh_X7 rfl (by decide) (by decide) (Nat.le_of_ble_eq_true rfl) dX1_backIn_53) (fun v17 h18 => ?_)
    refine vv_iload_n (pc := 56) X (kf := 2) (i := 2) rfl 2 rfl dX1_backIn_56 ?_
    refine vv_iconst (pc := 57) X dX1_backIn_57 ?_
    refine vv_isub (pc := 58) X dX1_backIn_58 ?_
    refine vv_aload_n (pc := 59) X (kf := 0) (i := 0) rfl 0 rfl dX1_backIn_59 ?_
    refine vv_getR (pc := 60) X (fun _ z => by cases List.mem_singleton.mp z; exact fl_X1_35_0) dX1_backIn_60 (fun v21 => ?_)
    refine vv_getI (pc := 63) X (fun _ z => by cases List.mem_singleton.mp z; exact fl_X1_189_1) dX1_backIn_63 (fun v22 => ?_)
    refine vv_rcv (fun b25 t9 c9 fs9 e26 g9 k9 => ?_)
    cases List.mem_singleton.mp k9
    refine vv_callI (pc := 66) (rest := []) (by rw [e26]; rfl) (fun r8 k8 e8 => zz_callV X (m_X7_back (hlM X) _ _ _ _ _ _ e8) g9 rfl rfl q3094 q2656 q4117 q159 q2657 nh_X7 rfl (by decide) (by decide) (Nat.le_of_ble_eq_true rfl) dX1_backIn_66) (fun v23 h24 => ?_)
    exact vv_iretI X rfl rfl dX1_backIn_69
  · exact vvx_out X (by decide) rfl
noncomputable def b_X1_backIn_33 (x0 : Option Nat) (x1 : Int) (x2 : Int) (h : HP) : Option ((Nat ⊕ Int) × HP) :=
  b_X1_backIn_34 x0 x1 x2 0 h
theorem B_X1_backIn_33 {M : hp_M} {G : va_G} {h0 : HP} (X : hp_X M G h0 "RenamedWords" "backIn" cX1_backIn 3 (some .int) [] 8 154) (x0 : Option Nat) (x1 : Int) (x2 : Int) (h : HP) : vv M G h0 3 (hp_End M G h0) xI h 33 [(0, LR x0), (1, LI x1), (2, LI x2)] [] (b_X1_backIn_33 x0 x1 x2 h) := by
  unfold b_X1_backIn_33
  refine vv_iconst (pc := 33) X dX1_backIn_33 ?_
  exact B_X1_backIn_34 X _ _ _ _ _
noncomputable def f_X1_backIn (a0 : Nat) (a1 : Int) (a2 : Int) (h : HP) : Option ((Nat ⊕ Int) × HP) :=
  (rcv h (some a0) [0]).bind fun b3 =>
  hbx (f_X1_placeAt b3 a1 h) (fun q5 h6 =>
      some (.inl q5, h6)) fun _ h2 =>
  hb (f_X1_in (iL a2) 1 (200 : Int64) h2) fun v7 h8 =>
  iEQ v7 0
    (b_X1_backIn_33 (some a0) a1 a2 h8)
    ((rdR h8 (some a0) [0] 0).bind fun v27 =>
    (rcv h8 v27 [1]).bind fun b30 =>
    hb (f_X2_isWindow b30 a1 a2 h8) fun v28 h29 =>
    iEQ v28 0
      (b_X1_backIn_33 (some a0) a1 a2 h29)
      (b_X1_backIn_34 (some a0) a1 a2 1 h29))
theorem A_X1_backIn {M : hp_M} {G : va_G} {h0 : HP} (X : hp_X M G h0 "RenamedWords" "backIn" cX1_backIn 3 (some .int) [] 8 154) (a0 : Nat) (a1 : Int) (a2 : Int) (h : HP) : vv M G h0 3 (hp_End M G h0) xI h 0 [(0, LR (some a0)), (1, LI a1), (2, LI a2)] [] (f_X1_backIn a0 a1 a2 h) := by
  unfold f_X1_backIn
  refine vv_aload_n (pc := 0) X (kf := 0) (i := 0) rfl 0 rfl dX1_backIn_0 ?_
  refine vv_iload_n (pc := 1) X (kf := 1) (i := 1) rfl 1 rfl dX1_backIn_1 ?_
  refine vv_rcv (fun b3 t9 c9 fs9 e4 g9 k9 => ?_)
  cases List.mem_singleton.mp k9
  refine vv_xallV (pc := 2) (rest := []) (by rw [e4]; rfl) (fun r8 k8 e8 => zz_callV X (m_X1_placeAt (hlM X) _ _ _ _ _ e8) g9 rfl rfl q3061 q3063 qs46 q132 q3064 nh_X1 rfl (by decide) (by decide) (Nat.le_of_ble_eq_true rfl) dX1_backIn_2) (fun v1 h2 => ?_) (fun q5 h6 => ?_)
  · refine vv_iload_n (pc := 5) X (kf := 2) (i := 2) rfl 2 rfl dX1_backIn_5 ?_
    refine vv_i2l (pc := 6) X dX1_backIn_6 ?_
    refine vv_lconst (pc := 7) (v := 1) X (by decide) dX1_backIn_7 ?_
    refine vv_ldc2 (pc := 8) X q3088 dX1_backIn_8 ?_
    refine vv_callI (pc := 11) (rest := []) (by rfl) (fun r8 k8 e8 => zz_callS X (m_X1_in (hlM X) _ _ _ _ _ _ e8) q2984 q873 q132 q874 nh_X1 rfl (by decide) (by decide) (Nat.le_of_ble_eq_true rfl) dX1_backIn_11) (fun v7 h8 => ?_)
    refine vv_if_eq (pc := 14) (tgt := 33) X dX1_backIn_14 rfl ?_ ?_
    · exact B_X1_backIn_33 X _ _ _ _
    · refine vv_aload_n (pc := 17) X (kf := 0) (i := 0) rfl 0 rfl dX1_backIn_17 ?_
      refine vv_getR (pc := 18) X (fun _ z => by cases List.mem_singleton.mp z; exact fl_X1_35_0) dX1_backIn_18 (fun v27 => ?_)
      refine vv_iload_n (pc := 21) X (kf := 1) (i := 1) rfl 1 rfl dX1_backIn_21 ?_
      refine vv_iload_n (pc := 22) X (kf := 2) (i := 2) rfl 2 rfl dX1_backIn_22 ?_
      refine vv_rcv (fun b30 t9 c9 fs9 e31 g9 k9 => ?_)
      cases List.mem_singleton.mp k9
      refine vv_callI (pc := 23) (rest := []) (by rw [e31]; rfl) (fun r8 k8 e8 => zz_callV X (m_X2_isWindow (hlM X) _ _ _ _ _ _ e8) g9 rfl rfl q3089 q2796 q2797 q133 q2798 nh_X2 rfl (by decide) (by decide) (Nat.le_of_ble_eq_true rfl) dX1_backIn_23) (fun v28 h29 => ?_)
      refine vv_if_eq (pc := 26) (tgt := 33) X dX1_backIn_26 rfl ?_ ?_
      · exact B_X1_backIn_33 X _ _ _ _
      · refine vv_iconst (pc := 29) X dX1_backIn_29 ?_
        refine vv_goto (pc := 30) (tgt := 34) X dX1_backIn_30 rfl ?_
        exact B_X1_backIn_34 X _ _ _ _ _
  · exact vvx_out X (by decide) rfl
theorem m_X1_backIn {l : Launch} (hl : l.stackTraces = false) {G : va_G} (a0 : Nat) (a1 : Int) (a2 : Int) (h : HP) : ∀ r hf, f_X1_backIn a0 a1 a2 h = some (r, hf) → Ct l yX1_backIn (ws_ yX1_backIn cX1_backIn 3 (some .int)) 8 154 G h [.ref a0, .int (iI a1), .int (iI a2)] (xI r) hf :=
  zz_ofW hl (by decide +kernel) (lv := [(0, LR (some a0)), (1, LI a1), (2, LI a2)]) (by simp [lv_args, lvL, lvV, zz_rfc, zz_rfs, zz_ci, zz_cr, zz_cj, zz_cf, zz_cd]) (by simp [lg_sl, zz_rfc, zz_ci, zz_cr, zz_cj, zz_cf, zz_cd]) (fun _ X => A_X1_backIn X a0 a1 a2 h)
-- X0_backIn RenamedWordsLaw.backIn(LRenamedWords;II[J)I
noncomputable def b_X0_backIn_17 (s0 : Option Nat) (h : HP) : Option ((Int) × HP) :=
  some (2, h)
theorem B_X0_backIn_17 {M : hp_M} {G : va_G} {h0 : HP} (X : hp_X M G h0 "RenamedWordsLaw" "backIn" cX0_backIn 5 (some .int) (tableOf [(0, 10, 13, 18), (0, 10, 17, 13)]) 9 184) (s0 : Option Nat) (h : HP) : vv M G h0 5 (hp_End M G h0) jI h 17 [] [LR s0] (b_X0_backIn_17 s0 h) := by
  unfold b_X0_backIn_17
  refine vv_astore (pc := 17) (lv' := [(4, LR s0)]) X (by decide) rfl dX0_backIn_17 ?_
  refine vv_iconst (pc := 19) X dX0_backIn_19 ?_
  exact vv_iretI X rfl rfl dX0_backIn_20
noncomputable def b_X0_backIn_13 (s0 : Option Nat) (h : HP) : Option ((Int) × HP) :=
  some (1, h)
theorem B_X0_backIn_13 {M : hp_M} {G : va_G} {h0 : HP} (X : hp_X M G h0 "RenamedWordsLaw" "backIn" cX0_backIn 5 (some .int) (tableOf [(0, 10, 13, 18), (0, 10, 17, 13)]) 9 184) (s0 : Option Nat) (h : HP) : vv M G h0 5 (hp_End M G h0) jI h 13 [] [LR s0] (b_X0_backIn_13 s0 h) := by
  unfold b_X0_backIn_13
  refine vv_astore (pc := 13) (lv' := [(4, LR s0)]) X (by decide) rfl dX0_backIn_13 ?_
  refine vv_iconst (pc := 15) X dX0_backIn_15 ?_
  exact vv_iretI X rfl rfl dX0_backIn_16
noncomputable def f_X0_backIn (a1 : Option Nat) (a2 : Int) (a3 : Int) (a4 : Option Nat) (h : HP) : Option ((Int) × HP) :=
  (rcv h a1 [0]).bind fun b3 =>
  hbx (f_X1_backIn b3 a2 a3 h) (fun q5 h6 =>
      (clsOf h6 q5).bind fun c7 =>
      if c7 = 35 then
        b_X0_backIn_13 (some q5) h6
      else
        if c7 = 36 then
          b_X0_backIn_17 (some q5) h6
        else
          none) fun v1 h2 =>
  (astJ h2 a4 0 (iL v1)).bind fun h8 =>
  some (0, h8)
theorem A_X0_backIn {M : hp_M} {G : va_G} {h0 : HP} (X : hp_X M G h0 "RenamedWordsLaw" "backIn" cX0_backIn 5 (some .int) (tableOf [(0, 10, 13, 18), (0, 10, 17, 13)]) 9 184) (a1 : Option Nat) (a2 : Int) (a3 : Int) (a4 : Option Nat) (h : HP) : vv M G h0 5 (hp_End M G h0) jI h 0 [(0, LR a1), (1, LI a2), (2, LI a3), (3, LR a4)] [] (f_X0_backIn a1 a2 a3 a4 h) := by
  unfold f_X0_backIn
  refine vv_aload_n (pc := 0) X (kf := 3) (i := 3) rfl 3 rfl dX0_backIn_0 ?_
  refine vv_iconst (pc := 1) X dX0_backIn_1 ?_
  refine vv_aload_n (pc := 2) X (kf := 0) (i := 0) rfl 0 rfl dX0_backIn_2 ?_
  refine vv_iload_n (pc := 3) X (kf := 1) (i := 1) rfl 1 rfl dX0_backIn_3 ?_
  refine vv_iload_n (pc := 4) X (kf := 2) (i := 2) rfl 2 rfl dX0_backIn_4 ?_
  refine vv_rcv (fun b3 t9 c9 fs9 e4 g9 k9 => ?_)
  cases List.mem_singleton.mp k9
  refine vv_xallI (pc := 5) (rest := [LI 0, LR a4]) (by rw [e4]; rfl) (fun r8 k8 e8 => zz_callV X (m_X1_backIn (hlM X) _ _ _ _ _ _ e8) g9 rfl rfl q3084 q3085 q3086 q132 q3087 nh_X1 rfl (by decide) (by decide) (Nat.le_of_ble_eq_true rfl) dX0_backIn_5) (fun v1 h2 => ?_) (fun q5 h6 => ?_)
  · refine vv_i2l (pc := 8) X dX0_backIn_8 ?_
    refine vv_lastore (pc := 9) X dX0_backIn_9 (fun h8 => ?_)
    refine vv_goto (pc := 10) (tgt := 21) X dX0_backIn_10 rfl ?_
    refine vv_iconst (pc := 21) X dX0_backIn_21 ?_
    exact vv_iretI X rfl rfl dX0_backIn_22
  · refine vvx_cls (fun _ c7 _ g9 => ?_)
    refine vvx_if (fun e9 => ?_) (fun _ => ?_)
    · subst e9
      refine vvx_catch X g9 rfl [] ⟨0, 10, 13, 18⟩ [⟨0, 10, 17, 13⟩] rfl (fun z hz => nomatch hz) rfl (by decide) q3041 q2274 ?_
      exact vv_sub [] (by rfl) (B_X0_backIn_13 X _ _)
    · refine vvx_if (fun e9 => ?_) (fun _ => ?_)
      · subst e9
        refine vvx_catch X g9 rfl [⟨0, 10, 13, 18⟩] ⟨0, 10, 17, 13⟩ [] rfl (fun z hz => by rcases List.mem_cons.mp hz with rfl | hz; exact Or.inr ⟨by decide, _, q3041, List.mem_of_getElem? (i := 0) rfl⟩; exact nomatch hz) rfl (by decide) q3013 q275 ?_
        exact vv_sub [] (by rfl) (B_X0_backIn_17 X _ _)
      · exact vvx_none
theorem m_X0_backIn {l : Launch} (hl : l.stackTraces = false) {G : va_G} (a1 : Option Nat) (a2 : Int) (a3 : Int) (a4 : Option Nat) (h : HP) : ∀ r hf, f_X0_backIn a1 a2 a3 a4 h = some (r, hf) → Ct l yX0_backIn (wsW_ yX0_backIn cX0_backIn 5 (some .int) [(0, 10, 13, 18), (0, 10, 17, 13)]) 9 184 G h [va_rf a1, .int (iI a2), .int (iI a3), va_rf a4] (jI r) hf :=
  zz_ofWH hl (by decide +kernel) (lv := [(0, LR a1), (1, LI a2), (2, LI a3), (3, LR a4)]) (by simp [lv_args, lvL, lvV, zz_rfc, zz_rfs, zz_ci, zz_cr, zz_cj, zz_cf, zz_cd]) (by simp [lg_sl, zz_rfc, zz_ci, zz_cr, zz_cj, zz_cf, zz_cd]) (fun _ X => A_X0_backIn X a1 a2 a3 a4 h)
-- X9_backIn RenamedWordsModel.backIn(II)I
noncomputable def b_X9_backIn_49 (h : HP) : Option ((Int) × HP) :=
  some (0, h)
theorem B_X9_backIn_49 {M : hp_M} {G : va_G} {h0 : HP} (X : hp_X M G h0 "RenamedWordsModel" "backIn" cX9_backIn 3 (some .int) [] 2 61) (h : HP) : vv M G h0 3 (hp_End M G h0) jI h 49 [] [] (b_X9_backIn_49 h) := by
  unfold b_X9_backIn_49
  refine vv_iconst (pc := 49) X dX9_backIn_49 ?_
  exact vv_iretI X rfl rfl dX9_backIn_50
noncomputable def b_X9_backIn_42 (x0 : Option Nat) (x1 : Int) (x2 : Int) (s0 : Int) (s1 : Option Nat) (h : HP) : Option ((Int) × HP) :=
  (rcv h s1 [7]).bind fun b10 =>
  hb (f_X9_fails b10 s0 2 h) fun v8 h9 =>
  iEQ v8 0
    (hb (f_X9_textFrom x1 h9) fun v12 h13 =>
    (rcv h13 x0 [7]).bind fun b16 =>
    hb (f_X9_backOf b16 v12 (x2 - 1) h13) fun v14 h15 =>
    some (v14, h15))
    (b_X9_backIn_49 h9)
theorem B_X9_backIn_42 {M : hp_M} {G : va_G} {h0 : HP} (X : hp_X M G h0 "RenamedWordsModel" "backIn" cX9_backIn 3 (some .int) [] 2 61) (x0 : Option Nat) (x1 : Int) (x2 : Int) (s0 : Int) (s1 : Option Nat) (h : HP) : vv M G h0 3 (hp_End M G h0) jI h 42 [(0, LR x0), (1, LI x1), (2, LI x2)] [LI s0, LR s1] (b_X9_backIn_42 x0 x1 x2 s0 s1 h) := by
  unfold b_X9_backIn_42
  refine vv_iconst (pc := 42) X dX9_backIn_42 ?_
  refine vv_rcv (fun b10 t9 c9 fs9 e11 g9 k9 => ?_)
  cases List.mem_singleton.mp k9
  refine vv_callI (pc := 43) (rest := []) (by rw [e11]; rfl) (fun r8 k8 e8 => zz_callV X (m_X9_fails (hlM X) _ _ _ _ _ _ e8) g9 rfl rfl q3841 q3843 qs109 q164 q3844 nh_X9 rfl (by decide) (by decide) (Nat.le_of_ble_eq_true rfl) dX9_backIn_43) (fun v8 h9 => ?_)
  refine vv_if_eq (pc := 46) (tgt := 51) X dX9_backIn_46 rfl ?_ ?_
  · refine vv_aload_n (pc := 51) X (kf := 0) (i := 0) rfl 0 rfl dX9_backIn_51 ?_
    refine vv_iload_n (pc := 52) X (kf := 1) (i := 1) rfl 1 rfl dX9_backIn_52 ?_
    refine vv_callI (pc := 53) (rest := [LR x0]) (by rfl) (fun r8 k8 e8 => zz_callS X (m_X9_textFrom (hlM X) _ _ _ _ e8) q3774 q3775 q164 q3776 nh_X9 rfl (by decide) (by decide) (Nat.le_of_ble_eq_true rfl) dX9_backIn_53) (fun v12 h13 => ?_)
    refine vv_iload_n (pc := 56) X (kf := 2) (i := 2) rfl 2 rfl dX9_backIn_56 ?_
    refine vv_iconst (pc := 57) X dX9_backIn_57 ?_
    refine vv_isub (pc := 58) X dX9_backIn_58 ?_
    refine vv_rcv (fun b16 t9 c9 fs9 e17 g9 k9 => ?_)
    cases List.mem_singleton.mp k9
    refine vv_callI (pc := 59) (rest := []) (by rw [e17]; rfl) (fun r8 k8 e8 => zz_callV X (m_X9_backOf (hlM X) _ _ _ _ _ _ e8) g9 rfl rfl q3793 q3795 qs98 q164 q3796 nh_X9 rfl (by decide) (by decide) (Nat.le_of_ble_eq_true rfl) dX9_backIn_59) (fun v14 h15 => ?_)
    exact vv_iretI X rfl rfl dX9_backIn_62
  · exact vv_sub [] (by rfl) (B_X9_backIn_49 X _)
noncomputable def b_X9_backIn_37 (x0 : Option Nat) (x1 : Int) (x2 : Int) (s0 : Option Nat) (h : HP) : Option ((Int) × HP) :=
  b_X9_backIn_42 x0 x1 x2 1 s0 h
theorem B_X9_backIn_37 {M : hp_M} {G : va_G} {h0 : HP} (X : hp_X M G h0 "RenamedWordsModel" "backIn" cX9_backIn 3 (some .int) [] 2 61) (x0 : Option Nat) (x1 : Int) (x2 : Int) (s0 : Option Nat) (h : HP) : vv M G h0 3 (hp_End M G h0) jI h 37 [(0, LR x0), (1, LI x1), (2, LI x2)] [LR s0] (b_X9_backIn_37 x0 x1 x2 s0 h) := by
  unfold b_X9_backIn_37
  refine vv_iconst (pc := 37) X dX9_backIn_37 ?_
  refine vv_goto (pc := 38) (tgt := 42) X dX9_backIn_38 rfl ?_
  exact B_X9_backIn_42 X _ _ _ _ _ _
noncomputable def f_X9_backIn (a0 : Nat) (a1 : Int) (a2 : Int) (h : HP) : Option ((Int) × HP) :=
  (wrI h (some a0) [7] 7 0).bind fun h1 =>
  (rcv h1 (some a0) [7]).bind fun b4 =>
  hb (f_X9_noPlace b4 a1 h1) fun v2 h3 =>
  iEQ v2 0
    (hb (f_X9_in a2 1 200 h3) fun v6 h7 =>
    iEQ v6 0
      (b_X9_backIn_37 (some a0) a1 a2 (some a0) h7)
      ((rdR h7 (some a0) [7] 0).bind fun v18 =>
      (aldI h7 .int v18 1).bind fun v19 =>
      iLE (a1 + a2) v19
        (b_X9_backIn_42 (some a0) a1 a2 0 (some a0) h7)
        (b_X9_backIn_37 (some a0) a1 a2 (some a0) h7)))
    (b_X9_backIn_49 h3)
theorem A_X9_backIn {M : hp_M} {G : va_G} {h0 : HP} (X : hp_X M G h0 "RenamedWordsModel" "backIn" cX9_backIn 3 (some .int) [] 2 61) (a0 : Nat) (a1 : Int) (a2 : Int) (h : HP) : vv M G h0 3 (hp_End M G h0) jI h 0 [(0, LR (some a0)), (1, LI a1), (2, LI a2)] [] (f_X9_backIn a0 a1 a2 h) := by
  unfold f_X9_backIn
  refine vv_aload_n (pc := 0) X (kf := 0) (i := 0) rfl 0 rfl dX9_backIn_0 ?_
  refine vv_iconst (pc := 1) X dX9_backIn_1 ?_
  refine vv_putI (pc := 2) (fin := false) X (fun _ z => by cases List.mem_singleton.mp z; exact fl_X9_69_7) (fun z => nomatch z) (fun z => nomatch z) dX9_backIn_2 (fun h1 => ?_)
  refine vv_aload_n (pc := 5) X (kf := 0) (i := 0) rfl 0 rfl dX9_backIn_5 ?_
  refine vv_iload_n (pc := 6) X (kf := 1) (i := 1) rfl 1 rfl dX9_backIn_6 ?_
  refine vv_rcv (fun b4 t9 c9 fs9 e5 g9 k9 => ?_)
  cases List.mem_singleton.mp k9
  refine vv_callI (pc := 7) (rest := []) (by rw [e5]; rfl) (fun r8 k8 e8 => zz_callV X (m_X9_noPlace (hlM X) _ _ _ _ _ e8) g9 rfl rfl q3860 q3862 qs112 q164 q3863 nh_X9 rfl (by decide) (by decide) (Nat.le_of_ble_eq_true rfl) dX9_backIn_7) (fun v2 h3 => ?_)
  refine vv_if_ne (pc := 10) (tgt := 49) X dX9_backIn_10 rfl ?_ ?_
  · exact vv_sub [] (by rfl) (B_X9_backIn_49 X _)
  · refine vv_aload_n (pc := 13) X (kf := 0) (i := 0) rfl 0 rfl dX9_backIn_13 ?_
    refine vv_iload_n (pc := 14) X (kf := 2) (i := 2) rfl 2 rfl dX9_backIn_14 ?_
    refine vv_iconst (pc := 15) X dX9_backIn_15 ?_
    refine vv_sipush (pc := 16) X (by decide) dX9_backIn_16 ?_
    refine vv_callI (pc := 19) (rest := [LR (some a0)]) (by rfl) (fun r8 k8 e8 => zz_callS X (m_X9_in (hlM X) _ _ _ _ _ _ e8) q3593 q3594 q164 q3595 nh_X9 rfl (by decide) (by decide) (Nat.le_of_ble_eq_true rfl) dX9_backIn_19) (fun v6 h7 => ?_)
    refine vv_if_eq (pc := 22) (tgt := 37) X dX9_backIn_22 rfl ?_ ?_
    · exact B_X9_backIn_37 X _ _ _ _ _
    · refine vv_iload_n (pc := 25) X (kf := 1) (i := 1) rfl 1 rfl dX9_backIn_25 ?_
      refine vv_iload_n (pc := 26) X (kf := 2) (i := 2) rfl 2 rfl dX9_backIn_26 ?_
      refine vv_iadd (pc := 27) X dX9_backIn_27 ?_
      refine vv_aload_n (pc := 28) X (kf := 0) (i := 0) rfl 0 rfl dX9_backIn_28 ?_
      refine vv_getR (pc := 29) X (fun _ z => by cases List.mem_singleton.mp z; exact fl_X9_9_7) dX9_backIn_29 (fun v18 => ?_)
      refine vv_iconst (pc := 32) X dX9_backIn_32 ?_
      refine vv_iaload (pc := 33) X dX9_backIn_33 (fun v19 => ?_)
      refine vv_icmp_le (pc := 34) (tgt := 41) X dX9_backIn_34 rfl ?_ ?_
      · refine vv_iconst (pc := 41) X dX9_backIn_41 ?_
        exact B_X9_backIn_42 X _ _ _ _ _ _
      · exact B_X9_backIn_37 X _ _ _ _ _
theorem m_X9_backIn {l : Launch} (hl : l.stackTraces = false) {G : va_G} (a0 : Nat) (a1 : Int) (a2 : Int) (h : HP) : ∀ r hf, f_X9_backIn a0 a1 a2 h = some (r, hf) → Ct l yX9_backIn (ws_ yX9_backIn cX9_backIn 3 (some .int)) 2 61 G h [.ref a0, .int (iI a1), .int (iI a2)] (jI r) hf :=
  zz_ofW hl (by decide +kernel) (lv := [(0, LR (some a0)), (1, LI a1), (2, LI a2)]) (by simp [lv_args, lvL, lvV, zz_rfc, zz_rfs, zz_ci, zz_cr, zz_cj, zz_cf, zz_cd]) (by simp [lg_sl, zz_rfc, zz_ci, zz_cr, zz_cj, zz_cf, zz_cd]) (fun _ X => A_X9_backIn X a0 a1 a2 h)
-- X1_patternAt RenamedWords.patternAt(I)LRenamedWords$Word;
noncomputable def f_X1_patternAt (a0 : Nat) (a1 : Int) (h : HP) : Option ((Nat ⊕ Option Nat) × HP) :=
  (rdR h (some a0) [0] 0).bind fun v1 =>
  (rcv h v1 [1]).bind fun b4 =>
  hb (f_X2_patternMany b4 h) fun v2 h3 =>
  hb (f_X1_in (iL a1) 0 (iL (v2 - 1)) h3) fun v6 h7 =>
  hbx (f_X1_index v6 h7) (fun q10 h11 =>
      some (.inl q10, h11)) fun _ h9 =>
  (rdR h9 (some a0) [0] 0).bind fun v12 =>
  (rdR h9 v12 [1] 2).bind fun v13 =>
  (aldR h9 "RenamedWords$Word" v13 a1).bind fun v14 =>
  some (.inr v14, h9)
theorem A_X1_patternAt {M : hp_M} {G : va_G} {h0 : HP} (X : hp_X M G h0 "RenamedWords" "patternAt" cX1_patternAt 2 (some (.object "RenamedWords$Word")) [] 7 125) (a0 : Nat) (a1 : Int) (h : HP) : vv M G h0 2 (hp_End M G h0) xR h 0 [(0, LR (some a0)), (1, LI a1)] [] (f_X1_patternAt a0 a1 h) := by
  unfold f_X1_patternAt
  refine vv_iload_n (pc := 0) X (kf := 1) (i := 1) rfl 1 rfl dX1_patternAt_0 ?_
  refine vv_i2l (pc := 1) X dX1_patternAt_1 ?_
  refine vv_lconst (pc := 2) (v := 0) X (by decide) dX1_patternAt_2 ?_
  refine vv_aload_n (pc := 3) X (kf := 0) (i := 0) rfl 0 rfl dX1_patternAt_3 ?_
  refine vv_getR (pc := 4) X (fun _ z => by cases List.mem_singleton.mp z; exact fl_X1_35_0) dX1_patternAt_4 (fun v1 => ?_)
  refine vv_rcv (fun b4 t9 c9 fs9 e5 g9 k9 => ?_)
  cases List.mem_singleton.mp k9
  refine vv_callI (pc := 7) (rest := [LJ 0, LJ (iL a1)]) (by rw [e5]; rfl) (fun r8 k8 e8 => zz_callV X (m_X2_patternMany (hlM X) _ _ _ _ e8) g9 rfl rfl q3018 q1114 q1115 q133 q1116 nh_X2 rfl (by decide) (by decide) (Nat.le_of_ble_eq_true rfl) dX1_patternAt_7) (fun v2 h3 => ?_)
  refine vv_iconst (pc := 10) X dX1_patternAt_10 ?_
  refine vv_isub (pc := 11) X dX1_patternAt_11 ?_
  refine vv_i2l (pc := 12) X dX1_patternAt_12 ?_
  refine vv_callI (pc := 13) (rest := []) (by rfl) (fun r8 k8 e8 => zz_callS X (m_X1_in (hlM X) _ _ _ _ _ _ e8) q2984 q873 q132 q874 nh_X1 rfl (by decide) (by decide) (Nat.le_of_ble_eq_true rfl) dX1_patternAt_13) (fun v6 h7 => ?_)
  refine vv_xallV (pc := 16) (rest := []) (by rfl) (fun r8 k8 e8 => zz_callS X (m_X1_index (hlM X) _ _ _ _ e8) q3066 q3067 q132 q3068 nh_X1 rfl (by decide) (by decide) (Nat.le_of_ble_eq_true rfl) dX1_patternAt_16) (fun v8 h9 => ?_) (fun q10 h11 => ?_)
  · refine vv_aload_n (pc := 19) X (kf := 0) (i := 0) rfl 0 rfl dX1_patternAt_19 ?_
    refine vv_getR (pc := 20) X (fun _ z => by cases List.mem_singleton.mp z; exact fl_X1_35_0) dX1_patternAt_20 (fun v12 => ?_)
    refine vv_getR (pc := 23) X (fun _ z => by cases List.mem_singleton.mp z; exact fl_X1_243_1) dX1_patternAt_23 (fun v13 => ?_)
    refine vv_iload_n (pc := 26) X (kf := 1) (i := 1) rfl 1 rfl dX1_patternAt_26 ?_
    refine vv_aaload (pc := 27) X dX1_patternAt_27 (fun v14 => ?_)
    exact vv_aretO X rfl rfl dX1_patternAt_28
  · exact vvx_out X (by decide) rfl
theorem m_X1_patternAt {l : Launch} (hl : l.stackTraces = false) {G : va_G} (a0 : Nat) (a1 : Int) (h : HP) : ∀ r hf, f_X1_patternAt a0 a1 h = some (r, hf) → Ct l yX1_patternAt (ws_ yX1_patternAt cX1_patternAt 2 (some (.object "RenamedWords$Word"))) 7 125 G h [.ref a0, .int (iI a1)] (xR r) hf :=
  zz_ofW hl (by decide +kernel) (lv := [(0, LR (some a0)), (1, LI a1)]) (by simp [lv_args, lvL, lvV, zz_rfc, zz_rfs, zz_ci, zz_cr, zz_cj, zz_cf, zz_cd]) (by simp [lg_sl, zz_rfc, zz_ci, zz_cr, zz_cj, zz_cf, zz_cd]) (fun _ X => A_X1_patternAt X a0 a1 h)
-- X14_has RenamedWords$Word.has(I)Z
noncomputable def c_X14_has_11 (r11 : Int → Option Nat → Int → Int → HP → Option ((Int) × HP)) (x1 : Int) (x2 : Option Nat) (x3 : Int) (x4 : Int) (h : HP) : Option ((Int) × HP) :=
  iLE x3 x4
    (some (0, h))
    ((aldI h .int x2 x4).bind fun v3 =>
    iEQ v3 x1
      (some (1, h))
      (r11 x1 x2 x3 (x4 + 1) h))
noncomputable def b_X14_has_11 : Int → Option Nat → Int → Int → HP → Option ((Int) × HP) := fx (fun _ _ _ _ _ => none) (c_X14_has_11) FU
theorem C_X14_has_11 {M : hp_M} {G : va_G} {h0 : HP} (X : hp_X M G h0 "RenamedWords$Word" "has" cX14_has 6 (some .boolean) [] 0 0) (r11 : Int → Option Nat → Int → Int → HP → Option ((Int) × HP)) (hr11 : ∀ (y1 : Int) (y2 : Option Nat) (y3 : Int) (y4 : Int) (h : HP), vv M G h0 6 (hp_End M G h0) jI h 11 [(1, LI y1), (2, LR y2), (3, LI y3), (4, LI y4)] [] (r11 y1 y2 y3 y4 h)) (x1 : Int) (x2 : Option Nat) (x3 : Int) (x4 : Int) (h : HP) : vv M G h0 6 (hp_End M G h0) jI h 11 [(1, LI x1), (2, LR x2), (3, LI x3), (4, LI x4)] [] (c_X14_has_11 r11 x1 x2 x3 x4 h) := by
  unfold c_X14_has_11
  refine vv_iload (pc := 11) X 3 rfl dX14_has_11 ?_
  refine vv_iload_n (pc := 13) X (kf := 3) (i := 3) rfl 2 rfl dX14_has_13 ?_
  refine vv_icmp_ge (pc := 14) (tgt := 37) X dX14_has_14 rfl ?_ ?_
  · refine vv_iconst (pc := 37) X dX14_has_37 ?_
    exact vv_iret0 X rfl rfl dX14_has_38
  · refine vv_aload_n (pc := 17) X (kf := 2) (i := 2) rfl 1 rfl dX14_has_17 ?_
    refine vv_iload (pc := 18) X 3 rfl dX14_has_18 ?_
    refine vv_iaload (pc := 20) X dX14_has_20 (fun v3 => ?_)
    refine vv_istore (pc := 21) (lv' := [(5, LI v3), (1, LI x1), (2, LR x2), (3, LI x3), (4, LI x4)]) X (by decide) rfl dX14_has_21 ?_
    refine vv_iload (pc := 23) X 0 rfl dX14_has_23 ?_
    refine vv_iload_n (pc := 25) X (kf := 1) (i := 1) rfl 1 rfl dX14_has_25 ?_
    refine vv_icmp_ne (pc := 26) (tgt := 31) X dX14_has_26 rfl ?_ ?_
    · refine vv_iinc (pc := 31) (lv' := [(4, LI (x4 + 1)), (5, LI v3), (1, LI x1), (2, LR x2), (3, LI x3)]) X 4 rfl (by decide) rfl dX14_has_31 ?_
      refine vv_goto (pc := 34) (tgt := 11) X dX14_has_34 rfl ?_
      exact vv_sub [2, 3, 4, 0] (by rfl) (hr11 _ _ _ _ _)
    · refine vv_iconst (pc := 29) X dX14_has_29 ?_
      exact vv_iret1 X rfl rfl dX14_has_30
theorem B_X14_has_11 {M : hp_M} {G : va_G} {h0 : HP} (X : hp_X M G h0 "RenamedWords$Word" "has" cX14_has 6 (some .boolean) [] 0 0) : ∀ (x1 : Int) (x2 : Option Nat) (x3 : Int) (x4 : Int) (h : HP), vv M G h0 6 (hp_End M G h0) jI h 11 [(1, LI x1), (2, LR x2), (3, LI x3), (4, LI x4)] [] (b_X14_has_11 x1 x2 x3 x4 h) := by
  unfold b_X14_has_11
  generalize FU = n
  induction n with
  | zero => intro x1 x2 x3 x4 h; exact vv_none
  | succ n ih => exact C_X14_has_11 X _ ih
noncomputable def f_X14_has (a0 : Nat) (a1 : Int) (h : HP) : Option ((Int) × HP) :=
  (rdR h (some a0) [11] 0).bind fun v1 =>
  (alen h v1).bind fun v2 =>
  b_X14_has_11 a1 v1 v2 0 h
theorem A_X14_has {M : hp_M} {G : va_G} {h0 : HP} (X : hp_X M G h0 "RenamedWords$Word" "has" cX14_has 6 (some .boolean) [] 0 0) (a0 : Nat) (a1 : Int) (h : HP) : vv M G h0 6 (hp_End M G h0) jI h 0 [(0, LR (some a0)), (1, LI a1)] [] (f_X14_has a0 a1 h) := by
  unfold f_X14_has
  refine vv_aload_n (pc := 0) X (kf := 0) (i := 0) rfl 0 rfl dX14_has_0 ?_
  refine vv_getR (pc := 1) X (fun _ z => by cases List.mem_singleton.mp z; exact fl_X14_9_11) dX14_has_1 (fun v1 => ?_)
  refine vv_astore_n (pc := 4) (lv' := [(2, LR v1), (0, LR (some a0)), (1, LI a1)]) X (kf := 2) (i := 2) rfl (by decide) rfl dX14_has_4 ?_
  refine vv_aload_n (pc := 5) X (kf := 2) (i := 2) rfl 0 rfl dX14_has_5 ?_
  refine vv_alen (pc := 6) X dX14_has_6 (fun v2 => ?_)
  refine vv_istore_n (pc := 7) (lv' := [(3, LI v2), (2, LR v1), (0, LR (some a0)), (1, LI a1)]) X (kf := 3) (i := 3) rfl (by decide) rfl dX14_has_7 ?_
  refine vv_iconst (pc := 8) X dX14_has_8 ?_
  refine vv_istore (pc := 9) (lv' := [(4, LI 0), (3, LI v2), (2, LR v1), (0, LR (some a0)), (1, LI a1)]) X (by decide) rfl dX14_has_9 ?_
  exact vv_sub [4, 2, 1, 0] (by rfl) (B_X14_has_11 X _ _ _ _ _)
theorem m_X14_has {l : Launch} (hl : l.stackTraces = false) {G : va_G} (a0 : Nat) (a1 : Int) (h : HP) : ∀ r hf, f_X14_has a0 a1 h = some (r, hf) → Ct l yX14_has (ws_ yX14_has cX14_has 6 (some .boolean)) 0 0 G h [.ref a0, .int (iI a1)] (jI r) hf :=
  zz_ofW hl (by decide +kernel) (lv := [(0, LR (some a0)), (1, LI a1)]) (by simp [lv_args, lvL, lvV, zz_rfc, zz_rfs, zz_ci, zz_cr, zz_cj, zz_cf, zz_cd]) (by simp [lg_sl, zz_rfc, zz_ci, zz_cr, zz_cj, zz_cf, zz_cd]) (fun _ X => A_X14_has X a0 a1 h)
