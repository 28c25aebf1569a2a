/-! STAGE 1c: functions and contracts (printed by gen/mkfuncs.py). -/
set_option maxRecDepth 100000
set_option linter.unusedVariables false
-- X9_isKey RenamedWordsModel.isKey(Ljava/lang/String;)Z
noncomputable def b_X9_isKey_26 (h : HP) : Option ((Int) × HP) :=
  some (0, h)
theorem B_X9_isKey_26 {M : hp_M} {G : va_G} {h0 : HP} (X : hp_X M G h0 "RenamedWordsModel" "isKey" cX9_isKey 3 (some .boolean) [] 4 117) (h : HP) : vv M G h0 3 (hp_End M G h0) jI h 26 [] [] (b_X9_isKey_26 h) := by
  unfold b_X9_isKey_26
  refine vv_iconst (pc := 26) X dX9_isKey_26 ?_
  exact vv_iret0 X rfl rfl dX9_isKey_27
noncomputable def c_X9_isKey_30 (r30 : Option Nat → Option Nat → Int → HP → Option ((Int) × HP)) (x0 : Option Nat) (x1 : Option Nat) (x2 : Int) (h : HP) : Option ((Int) × HP) :=
  (rcv h x0 [7]).bind fun b13 =>
  hb (f_X9_length b13 h) fun v11 h12 =>
  iLE v11 x2
    (some (1, h12))
    ((rdR h12 x0 [7] 11).bind fun v15 =>
    (rdI h12 x0 [7] 13).bind fun v16 =>
    (aldI h12 .int v15 (v16 + x2)).bind fun v17 =>
    (rcv h12 x1 [26]).bind fun b20 =>
    hb (f_J11_charAt b20 x2 h12) fun v18 h19 =>
    iEQ v17 v18
      (r30 x0 x1 (x2 + 1) h19)
      (some (0, h19)))
noncomputable def b_X9_isKey_30 : Option Nat → Option Nat → Int → HP → Option ((Int) × HP) := fx (fun _ _ _ _ => none) (c_X9_isKey_30) FU
theorem C_X9_isKey_30 {M : hp_M} {G : va_G} {h0 : HP} (X : hp_X M G h0 "RenamedWordsModel" "isKey" cX9_isKey 3 (some .boolean) [] 4 117) (r30 : Option Nat → Option Nat → Int → HP → Option ((Int) × HP)) (hr30 : ∀ (y0 : Option Nat) (y1 : Option Nat) (y2 : Int) (h : HP), vv M G h0 3 (hp_End M G h0) jI h 30 [(0, LR y0), (1, LR y1), (2, LI y2)] [] (r30 y0 y1 y2 h)) (x0 : Option Nat) (x1 : Option Nat) (x2 : Int) (h : HP) : vv M G h0 3 (hp_End M G h0) jI h 30 [(0, LR x0), (1, LR x1), (2, LI x2)] [] (c_X9_isKey_30 r30 x0 x1 x2 h) := by
  unfold c_X9_isKey_30
  refine vv_iload_n (pc := 30) X (kf := 2) (i := 2) rfl 2 rfl dX9_isKey_30 ?_
  refine vv_aload_n (pc := 31) X (kf := 0) (i := 0) rfl 0 rfl dX9_isKey_31 ?_
  refine vv_rcv (fun b13 t9 c9 fs9 e14 g9 k9 => ?_)
  cases List.mem_singleton.mp k9
  refine vv_callI (pc := 32) (rest := [LI x2]) (by rw [e14]; rfl) (fun r8 k8 e8 => zz_callV X (m_X9_length (hlM X) _ _ _ _ e8) g9 rfl rfl q3606 q3608 qs58 q164 q3609 nh_X9 rfl (by decide) (by decide) (Nat.le_of_ble_eq_true rfl) dX9_isKey_32) (fun v11 h12 => ?_)
  refine vv_icmp_ge (pc := 35) (tgt := 65) X dX9_isKey_35 rfl ?_ ?_
  · refine vv_iconst (pc := 65) X dX9_isKey_65 ?_
    exact vv_iret1 X rfl rfl dX9_isKey_66
  · refine vv_aload_n (pc := 38) X (kf := 0) (i := 0) rfl 0 rfl dX9_isKey_38 ?_
    refine vv_getR (pc := 39) X (fun _ z => by cases List.mem_singleton.mp z; exact fl_X9_38_7) dX9_isKey_39 (fun v15 => ?_)
    refine vv_aload_n (pc := 42) X (kf := 0) (i := 0) rfl 0 rfl dX9_isKey_42 ?_
    refine vv_getI (pc := 43) X (fun _ z => by cases List.mem_singleton.mp z; exact fl_X9_166_7) dX9_isKey_43 (fun v16 => ?_)
    refine vv_iload_n (pc := 46) X (kf := 2) (i := 2) rfl 2 rfl dX9_isKey_46 ?_
    refine vv_iadd (pc := 47) X dX9_isKey_47 ?_
    refine vv_iaload (pc := 48) X dX9_isKey_48 (fun v17 => ?_)
    refine vv_aload_n (pc := 49) X (kf := 1) (i := 1) rfl 1 rfl dX9_isKey_49 ?_
    refine vv_iload_n (pc := 50) X (kf := 2) (i := 2) rfl 2 rfl dX9_isKey_50 ?_
    refine vv_rcv (fun b20 t9 c9 fs9 e21 g9 k9 => ?_)
    cases List.mem_singleton.mp k9
    refine vv_callI (pc := 51) (rest := [LI v17]) (by rw [e21]; rfl) (fun r8 k8 e8 => zz_callV X (m_J11_charAt (hlM X) _ _ _ _ _ e8) g9 rfl rfl q3611 q1021 q1022 q146 q1023 nh_J11 rfl (by decide) (by decide) (Nat.le_of_ble_eq_true rfl) dX9_isKey_51) (fun v18 h19 => ?_)
    refine vv_icmp_eq (pc := 54) (tgt := 59) X dX9_isKey_54 rfl ?_ ?_
    · refine vv_iinc (pc := 59) (lv' := [(2, LI (x2 + 1)), (0, LR x0), (1, LR x1)]) X 2 rfl (by decide) rfl dX9_isKey_59 ?_
      refine vv_goto (pc := 62) (tgt := 30) X dX9_isKey_62 rfl ?_
      exact vv_sub [1, 2, 0] (by rfl) (hr30 _ _ _ _)
    · refine vv_iconst (pc := 57) X dX9_isKey_57 ?_
      exact vv_iret0 X rfl rfl dX9_isKey_58
theorem B_X9_isKey_30 {M : hp_M} {G : va_G} {h0 : HP} (X : hp_X M G h0 "RenamedWordsModel" "isKey" cX9_isKey 3 (some .boolean) [] 4 117) : ∀ (x0 : Option Nat) (x1 : Option Nat) (x2 : Int) (h : HP), vv M G h0 3 (hp_End M G h0) jI h 30 [(0, LR x0), (1, LR x1), (2, LI x2)] [] (b_X9_isKey_30 x0 x1 x2 h) := by
  unfold b_X9_isKey_30
  generalize FU = n
  induction n with
  | zero => intro x0 x1 x2 h; exact vv_none
  | succ n ih => exact C_X9_isKey_30 X _ ih
noncomputable def f_X9_isKey (a0 : Nat) (a1 : Option Nat) (h : HP) : Option ((Int) × HP) :=
  (rdI h (some a0) [7] 17).bind fun v1 =>
  iEQ v1 0
    ((rdI h (some a0) [7] 15).bind fun v2 =>
    iEQ v2 1
      ((rcv h (some a0) [7]).bind fun b5 =>
      hb (f_X9_length b5 h) fun v3 h4 =>
      (rcv h4 a1 [26]).bind fun b9 =>
      hb (f_J11_length b9 h4) fun v7 h8 =>
      iEQ v3 v7
        (b_X9_isKey_30 (some a0) a1 0 h8)
        (b_X9_isKey_26 h8))
      (b_X9_isKey_26 h))
    (b_X9_isKey_26 h)
theorem A_X9_isKey {M : hp_M} {G : va_G} {h0 : HP} (X : hp_X M G h0 "RenamedWordsModel" "isKey" cX9_isKey 3 (some .boolean) [] 4 117) (a0 : Nat) (a1 : Option Nat) (h : HP) : vv M G h0 3 (hp_End M G h0) jI h 0 [(0, LR (some a0)), (1, LR a1)] [] (f_X9_isKey a0 a1 h) := by
  unfold f_X9_isKey
  refine vv_aload_n (pc := 0) X (kf := 0) (i := 0) rfl 0 rfl dX9_isKey_0 ?_
  refine vv_getI (pc := 1) X (fun _ z => by cases List.mem_singleton.mp z; exact fl_X9_182_7) dX9_isKey_1 (fun v1 => ?_)
  refine vv_if_ne (pc := 4) (tgt := 26) X dX9_isKey_4 rfl ?_ ?_
  · exact vv_sub [] (by rfl) (B_X9_isKey_26 X _)
  · refine vv_aload_n (pc := 7) X (kf := 0) (i := 0) rfl 0 rfl dX9_isKey_7 ?_
    refine vv_getI (pc := 8) X (fun _ z => by cases List.mem_singleton.mp z; exact fl_X9_172_7) dX9_isKey_8 (fun v2 => ?_)
    refine vv_iconst (pc := 11) X dX9_isKey_11 ?_
    refine vv_icmp_ne (pc := 12) (tgt := 26) X dX9_isKey_12 rfl ?_ ?_
    · exact vv_sub [] (by rfl) (B_X9_isKey_26 X _)
    · refine vv_aload_n (pc := 15) X (kf := 0) (i := 0) rfl 0 rfl dX9_isKey_15 ?_
      refine vv_rcv (fun b5 t9 c9 fs9 e6 g9 k9 => ?_)
      cases List.mem_singleton.mp k9
      refine vv_callI (pc := 16) (rest := []) (by rw [e6]; rfl) (fun r8 k8 e8 => zz_callV X (m_X9_length (hlM X) _ _ _ _ e8) g9 rfl rfl q3606 q3608 qs58 q164 q3609 nh_X9 rfl (by decide) (by decide) (Nat.le_of_ble_eq_true rfl) dX9_isKey_16) (fun v3 h4 => ?_)
      refine vv_aload_n (pc := 19) X (kf := 1) (i := 1) rfl 1 rfl dX9_isKey_19 ?_
      refine vv_rcv (fun b9 t9 c9 fs9 e10 g9 k9 => ?_)
      cases List.mem_singleton.mp k9
      refine vv_callI (pc := 20) (rest := [LI v3]) (by rw [e10]; rfl) (fun r8 k8 e8 => zz_callV X (m_J11_length (hlM X) _ _ _ _ e8) g9 rfl rfl q3610 q429 q430 q146 q431 nh_J11 rfl (by decide) (by decide) (Nat.le_of_ble_eq_true rfl) dX9_isKey_20) (fun v7 h8 => ?_)
      refine vv_icmp_eq (pc := 23) (tgt := 28) X dX9_isKey_23 rfl ?_ ?_
      · refine vv_iconst (pc := 28) X dX9_isKey_28 ?_
        refine vv_istore_n (pc := 29) (lv' := [(2, LI 0), (0, LR (some a0)), (1, LR a1)]) X (kf := 2) (i := 2) rfl (by decide) rfl dX9_isKey_29 ?_
        exact vv_sub [1, 2, 0] (by rfl) (B_X9_isKey_30 X _ _ _ _)
      · exact vv_sub [] (by rfl) (B_X9_isKey_26 X _)
theorem m_X9_isKey {l : Launch} (hl : l.stackTraces = false) {G : va_G} (a0 : Nat) (a1 : Option Nat) (h : HP) : ∀ r hf, f_X9_isKey a0 a1 h = some (r, hf) → Ct l yX9_isKey (ws_ yX9_isKey cX9_isKey 3 (some .boolean)) 4 117 G h [.ref a0, va_rf a1] (jI r) hf :=
  zz_ofW hl (by decide +kernel) (lv := [(0, LR (some a0)), (1, LR a1)]) (by simp [lv_args, lvL, lvV, zz_rfc, zz_rfs, zz_ci, zz_cr, zz_cj, zz_cf, zz_cd]) (by simp [lg_sl, zz_rfc, zz_ci, zz_cr, zz_cj, zz_cf, zz_cd]) (fun _ X => A_X9_isKey X a0 a1 h)
-- X9_faulty RenamedWordsModel.faulty(ZI)Z
noncomputable def b_X9_faulty_36 (s0 : Int) (h : HP) : Option ((Int) × HP) :=
  rtZ s0 (some (s0, h))
theorem B_X9_faulty_36 {M : hp_M} {G : va_G} {h0 : HP} (X : hp_X M G h0 "RenamedWordsModel" "faulty" cX9_faulty 3 (some .boolean) [] 0 0) (s0 : Int) (h : HP) : vv M G h0 3 (hp_End M G h0) jI h 36 [] [LI s0] (b_X9_faulty_36 s0 h) := by
  unfold b_X9_faulty_36
  exact vv_iretZ X rfl rfl dX9_faulty_36
noncomputable def b_X9_faulty_24 (x0 : Option Nat) (h : HP) : Option ((Int) × HP) :=
  (rdI h x0 [7] 17).bind fun v2 =>
  iEQ v2 0
    (b_X9_faulty_36 0 h)
    (b_X9_faulty_36 1 h)
theorem B_X9_faulty_24 {M : hp_M} {G : va_G} {h0 : HP} (X : hp_X M G h0 "RenamedWordsModel" "faulty" cX9_faulty 3 (some .boolean) [] 0 0) (x0 : Option Nat) (h : HP) : vv M G h0 3 (hp_End M G h0) jI h 24 [(0, LR x0)] [] (b_X9_faulty_24 x0 h) := by
  unfold b_X9_faulty_24
  refine vv_aload_n (pc := 24) X (kf := 0) (i := 0) rfl 0 rfl dX9_faulty_24 ?_
  refine vv_getI (pc := 25) X (fun _ z => by cases List.mem_singleton.mp z; exact fl_X9_182_7) dX9_faulty_25 (fun v2 => ?_)
  refine vv_if_eq (pc := 28) (tgt := 35) X dX9_faulty_28 rfl ?_ ?_
  · refine vv_iconst (pc := 35) X dX9_faulty_35 ?_
    exact vv_sub [] (by rfl) (B_X9_faulty_36 X _ _)
  · refine vv_iconst (pc := 31) X dX9_faulty_31 ?_
    refine vv_goto (pc := 32) (tgt := 36) X dX9_faulty_32 rfl ?_
    exact vv_sub [] (by rfl) (B_X9_faulty_36 X _ _)
noncomputable def f_X9_faulty (a0 : Nat) (a1 : Int) (a2 : Int) (h : HP) : Option ((Int) × HP) :=
  (rdI h (some a0) [7] 17).bind fun v1 =>
  iEQ v1 0
    (iEQ a1 0
      (b_X9_faulty_24 (some a0) h)
      ((wrI h (some a0) [7] 17 a2).bind fun h3 =>
      (rdI h3 (some a0) [7] 13).bind fun v4 =>
      (wrI h3 (some a0) [7] 18 v4).bind fun h5 =>
      b_X9_faulty_24 (some a0) h5))
    (b_X9_faulty_24 (some a0) h)
theorem A_X9_faulty {M : hp_M} {G : va_G} {h0 : HP} (X : hp_X M G h0 "RenamedWordsModel" "faulty" cX9_faulty 3 (some .boolean) [] 0 0) (a0 : Nat) (a1 : Int) (a2 : Int) (h : HP) : vv M G h0 3 (hp_End M G h0) jI h 0 [(0, LR (some a0)), (1, LI a1), (2, LI a2)] [] (f_X9_faulty a0 a1 a2 h) := by
  unfold f_X9_faulty
  refine vv_aload_n (pc := 0) X (kf := 0) (i := 0) rfl 0 rfl dX9_faulty_0 ?_
  refine vv_getI (pc := 1) X (fun _ z => by cases List.mem_singleton.mp z; exact fl_X9_182_7) dX9_faulty_1 (fun v1 => ?_)
  refine vv_if_ne (pc := 4) (tgt := 24) X dX9_faulty_4 rfl ?_ ?_
  · exact vv_sub [0] (by rfl) (B_X9_faulty_24 X _ _)
  · refine vv_iload_n (pc := 7) X (kf := 1) (i := 1) rfl 1 rfl dX9_faulty_7 ?_
    refine vv_if_eq (pc := 8) (tgt := 24) X dX9_faulty_8 rfl ?_ ?_
    · exact vv_sub [0] (by rfl) (B_X9_faulty_24 X _ _)
    · refine vv_aload_n (pc := 11) X (kf := 0) (i := 0) rfl 0 rfl dX9_faulty_11 ?_
      refine vv_iload_n (pc := 12) X (kf := 2) (i := 2) rfl 2 rfl dX9_faulty_12 ?_
      refine vv_putI (pc := 13) (fin := false) X (fun _ z => by cases List.mem_singleton.mp z; exact fl_X9_182_7) (fun z => nomatch z) (fun z => nomatch z) dX9_faulty_13 (fun h3 => ?_)
      refine vv_aload_n (pc := 16) X (kf := 0) (i := 0) rfl 0 rfl dX9_faulty_16 ?_
      refine vv_aload_n (pc := 17) X (kf := 0) (i := 0) rfl 0 rfl dX9_faulty_17 ?_
      refine vv_getI (pc := 18) X (fun _ z => by cases List.mem_singleton.mp z; exact fl_X9_166_7) dX9_faulty_18 (fun v4 => ?_)
      refine vv_putI (pc := 21) (fin := false) X (fun _ z => by cases List.mem_singleton.mp z; exact fl_X9_185_7) (fun z => nomatch z) (fun z => nomatch z) dX9_faulty_21 (fun h5 => ?_)
      exact vv_sub [0] (by rfl) (B_X9_faulty_24 X _ _)
theorem m_X9_faulty {l : Launch} (hl : l.stackTraces = false) {G : va_G} (a0 : Nat) (a1 : Int) (a2 : Int) (h : HP) : ∀ r hf, f_X9_faulty a0 a1 a2 h = some (r, hf) → Ct l yX9_faulty (ws_ yX9_faulty cX9_faulty 3 (some .boolean)) 0 0 G h [.ref a0, .int (iI a1), .int (iI a2)] (jI r) hf :=
  zz_ofW hl (by decide +kernel) (lv := [(0, LR (some a0)), (1, LI a1), (2, LI a2)]) (by simp [lv_args, lvL, lvV, zz_rfc, zz_rfs, zz_ci, zz_cr, zz_cj, zz_cf, zz_cd]) (by simp [lg_sl, zz_rfc, zz_ci, zz_cr, zz_cj, zz_cf, zz_cd]) (fun _ X => A_X9_faulty X a0 a1 a2 h)
-- X9_textWord RenamedWordsModel.textWord()V
noncomputable def b_X9_textWord_51 (h : HP) : Option ((Unit) × HP) :=
  some ((), h)
theorem B_X9_textWord_51 {M : hp_M} {G : va_G} {h0 : HP} (X : hp_X M G h0 "RenamedWordsModel" "textWord" cX9_textWord 2 none [] 3 88) (h : HP) : vv M G h0 2 (hp_End M G h0) jV h 51 [] [] (b_X9_textWord_51 h) := by
  unfold b_X9_textWord_51
  exact vv_vreturn X rfl rfl dX9_textWord_51
noncomputable def c_X9_textWord_54 (r54 : Option Nat → Int → HP → Option ((Unit) × HP)) (x0 : Option Nat) (x1 : Int) (h : HP) : Option ((Unit) × HP) :=
  (rcv h x0 [7]).bind fun b18 =>
  hb (f_X9_length b18 h) fun v16 h17 =>
  iLE v16 x1
    ((rdR h17 x0 [7] 0).bind fun v20 =>
    (aldI h17 .int v20 1).bind fun v21 =>
    (rcv h17 x0 [7]).bind fun b24 =>
    hb (f_X9_length b24 h17) fun v22 h23 =>
    (astI h23 .int v20 1 (v21 + v22)).bind fun h26 =>
    (rcv h26 x0 [7]).bind fun b29 =>
    hb (f_X9_advance b29 h26) fun _ h28 =>
    some ((), h28))
    ((rdR h17 x0 [7] 0).bind fun v31 =>
    (rdR h17 x0 [7] 0).bind fun v32 =>
    (aldI h17 .int v32 1).bind fun v33 =>
    (rdR h17 x0 [7] 11).bind fun v34 =>
    (rdI h17 x0 [7] 13).bind fun v35 =>
    (aldI h17 .int v34 (v35 + x1)).bind fun v36 =>
    (astI h17 .int v31 ((16 + v33) + x1) (v36 - 97)).bind fun h37 =>
    r54 x0 (x1 + 1) h37)
noncomputable def b_X9_textWord_54 : Option Nat → Int → HP → Option ((Unit) × HP) := fx (fun _ _ _ => none) (c_X9_textWord_54) FU
theorem C_X9_textWord_54 {M : hp_M} {G : va_G} {h0 : HP} (X : hp_X M G h0 "RenamedWordsModel" "textWord" cX9_textWord 2 none [] 3 88) (r54 : Option Nat → Int → HP → Option ((Unit) × HP)) (hr54 : ∀ (y0 : Option Nat) (y1 : Int) (h : HP), vv M G h0 2 (hp_End M G h0) jV h 54 [(0, LR y0), (1, LI y1)] [] (r54 y0 y1 h)) (x0 : Option Nat) (x1 : Int) (h : HP) : vv M G h0 2 (hp_End M G h0) jV h 54 [(0, LR x0), (1, LI x1)] [] (c_X9_textWord_54 r54 x0 x1 h) := by
  unfold c_X9_textWord_54
  refine vv_iload_n (pc := 54) X (kf := 1) (i := 1) rfl 1 rfl dX9_textWord_54 ?_
  refine vv_aload_n (pc := 55) X (kf := 0) (i := 0) rfl 0 rfl dX9_textWord_55 ?_
  refine vv_rcv (fun b18 t9 c9 fs9 e19 g9 k9 => ?_)
  cases List.mem_singleton.mp k9
  refine vv_callI (pc := 56) (rest := [LI x1]) (by rw [e19]; rfl) (fun r8 k8 e8 => zz_callV X (m_X9_length (hlM X) _ _ _ _ e8) g9 rfl rfl q3606 q3608 qs58 q164 q3609 nh_X9 rfl (by decide) (by decide) (Nat.le_of_ble_eq_true rfl) dX9_textWord_56) (fun v16 h17 => ?_)
  refine vv_icmp_ge (pc := 59) (tgt := 98) X dX9_textWord_59 rfl ?_ ?_
  · refine vv_aload_n (pc := 98) X (kf := 0) (i := 0) rfl 0 rfl dX9_textWord_98 ?_
    refine vv_getR (pc := 99) X (fun _ z => by cases List.mem_singleton.mp z; exact fl_X9_9_7) dX9_textWord_99 (fun v20 => ?_)
    refine vv_iconst (pc := 102) X dX9_textWord_102 ?_
    refine vv_dup2 (pc := 103) X rfl rfl dX9_textWord_103 ?_
    refine vv_iaload (pc := 104) X dX9_textWord_104 (fun v21 => ?_)
    refine vv_aload_n (pc := 105) X (kf := 0) (i := 0) rfl 0 rfl dX9_textWord_105 ?_
    refine vv_rcv (fun b24 t9 c9 fs9 e25 g9 k9 => ?_)
    cases List.mem_singleton.mp k9
    refine vv_callI (pc := 106) (rest := [LI v21, LI 1, LR v20]) (by rw [e25]; rfl) (fun r8 k8 e8 => zz_callV X (m_X9_length (hlM X) _ _ _ _ e8) g9 rfl rfl q3606 q3608 qs58 q164 q3609 nh_X9 rfl (by decide) (by decide) (Nat.le_of_ble_eq_true rfl) dX9_textWord_106) (fun v22 h23 => ?_)
    refine vv_iadd (pc := 109) X dX9_textWord_109 ?_
    refine vv_iastore (pc := 110) X dX9_textWord_110 (fun h26 => ?_)
    refine vv_aload_n (pc := 111) X (kf := 0) (i := 0) rfl 0 rfl dX9_textWord_111 ?_
    refine vv_rcv (fun b29 t9 c9 fs9 e30 g9 k9 => ?_)
    cases List.mem_singleton.mp k9
    refine vv_callV (pc := 112) (rest := []) (by rw [e30]; rfl) (fun r8 k8 e8 => zz_callV X (m_X9_advance (hlM X) _ _ _ _ e8) g9 rfl rfl q3581 q3583 qs53 q164 q3584 nh_X9 rfl (by decide) (by decide) (Nat.le_of_ble_eq_true rfl) dX9_textWord_112) (fun v27 h28 => ?_)
    exact vv_vreturn X rfl rfl dX9_textWord_115
  · refine vv_aload_n (pc := 62) X (kf := 0) (i := 0) rfl 0 rfl dX9_textWord_62 ?_
    refine vv_getR (pc := 63) X (fun _ z => by cases List.mem_singleton.mp z; exact fl_X9_9_7) dX9_textWord_63 (fun v31 => ?_)
    refine vv_bipush (pc := 66) X (by decide) dX9_textWord_66 ?_
    refine vv_aload_n (pc := 68) X (kf := 0) (i := 0) rfl 0 rfl dX9_textWord_68 ?_
    refine vv_getR (pc := 69) X (fun _ z => by cases List.mem_singleton.mp z; exact fl_X9_9_7) dX9_textWord_69 (fun v32 => ?_)
    refine vv_iconst (pc := 72) X dX9_textWord_72 ?_
    refine vv_iaload (pc := 73) X dX9_textWord_73 (fun v33 => ?_)
    refine vv_iadd (pc := 74) X dX9_textWord_74 ?_
    refine vv_iload_n (pc := 75) X (kf := 1) (i := 1) rfl 1 rfl dX9_textWord_75 ?_
    refine vv_iadd (pc := 76) X dX9_textWord_76 ?_
    refine vv_aload_n (pc := 77) X (kf := 0) (i := 0) rfl 0 rfl dX9_textWord_77 ?_
    refine vv_getR (pc := 78) X (fun _ z => by cases List.mem_singleton.mp z; exact fl_X9_38_7) dX9_textWord_78 (fun v34 => ?_)
    refine vv_aload_n (pc := 81) X (kf := 0) (i := 0) rfl 0 rfl dX9_textWord_81 ?_
    refine vv_getI (pc := 82) X (fun _ z => by cases List.mem_singleton.mp z; exact fl_X9_166_7) dX9_textWord_82 (fun v35 => ?_)
    refine vv_iload_n (pc := 85) X (kf := 1) (i := 1) rfl 1 rfl dX9_textWord_85 ?_
    refine vv_iadd (pc := 86) X dX9_textWord_86 ?_
    refine vv_iaload (pc := 87) X dX9_textWord_87 (fun v36 => ?_)
    refine vv_bipush (pc := 88) X (by decide) dX9_textWord_88 ?_
    refine vv_isub (pc := 90) X dX9_textWord_90 ?_
    refine vv_iastore (pc := 91) X dX9_textWord_91 (fun h37 => ?_)
    refine vv_iinc (pc := 92) (lv' := [(1, LI (x1 + 1)), (0, LR x0)]) X 1 rfl (by decide) rfl dX9_textWord_92 ?_
    refine vv_goto (pc := 95) (tgt := 54) X dX9_textWord_95 rfl ?_
    exact vv_sub [1, 0] (by rfl) (hr54 _ _ _)
theorem B_X9_textWord_54 {M : hp_M} {G : va_G} {h0 : HP} (X : hp_X M G h0 "RenamedWordsModel" "textWord" cX9_textWord 2 none [] 3 88) : ∀ (x0 : Option Nat) (x1 : Int) (h : HP), vv M G h0 2 (hp_End M G h0) jV h 54 [(0, LR x0), (1, LI x1)] [] (b_X9_textWord_54 x0 x1 h) := by
  unfold b_X9_textWord_54
  generalize FU = n
  induction n with
  | zero => intro x0 x1 h; exact vv_none
  | succ n ih => exact C_X9_textWord_54 X _ ih
noncomputable def b_X9_textWord_44 (x0 : Option Nat) (s0 : Int) (s1 : Option Nat) (h : HP) : Option ((Unit) × HP) :=
  (rcv h s1 [7]).bind fun b14 =>
  hb (f_X9_faulty b14 s0 2 h) fun v12 h13 =>
  iEQ v12 0
    (b_X9_textWord_54 x0 0 h13)
    (b_X9_textWord_51 h13)
theorem B_X9_textWord_44 {M : hp_M} {G : va_G} {h0 : HP} (X : hp_X M G h0 "RenamedWordsModel" "textWord" cX9_textWord 2 none [] 3 88) (x0 : Option Nat) (s0 : Int) (s1 : Option Nat) (h : HP) : vv M G h0 2 (hp_End M G h0) jV h 44 [(0, LR x0)] [LI s0, LR s1] (b_X9_textWord_44 x0 s0 s1 h) := by
  unfold b_X9_textWord_44
  refine vv_iconst (pc := 44) X dX9_textWord_44 ?_
  refine vv_rcv (fun b14 t9 c9 fs9 e15 g9 k9 => ?_)
  cases List.mem_singleton.mp k9
  refine vv_callI (pc := 45) (rest := []) (by rw [e15]; rfl) (fun r8 k8 e8 => zz_callV X (m_X9_faulty (hlM X) _ _ _ _ _ _ e8) g9 rfl rfl q3612 q3614 qs59 q164 q3615 nh_X9 rfl (by decide) (by decide) (Nat.le_of_ble_eq_true rfl) dX9_textWord_45) (fun v12 h13 => ?_)
  refine vv_if_eq (pc := 48) (tgt := 52) X dX9_textWord_48 rfl ?_ ?_
  · refine vv_iconst (pc := 52) X dX9_textWord_52 ?_
    refine vv_istore_n (pc := 53) (lv' := [(1, LI 0), (0, LR x0)]) X (kf := 1) (i := 1) rfl (by decide) rfl dX9_textWord_53 ?_
    exact vv_sub [1, 0] (by rfl) (B_X9_textWord_54 X _ _ _)
  · exact vv_sub [] (by rfl) (B_X9_textWord_51 X _)
noncomputable def b_X9_textWord_14 (x0 : Option Nat) (s0 : Int) (s1 : Option Nat) (h : HP) : Option ((Unit) × HP) :=
  (rcv h s1 [7]).bind fun b4 =>
  hb (f_X9_faulty b4 s0 1 h) fun v2 h3 =>
  iEQ v2 0
    ((rdR h3 x0 [7] 0).bind fun v6 =>
    (aldI h3 .int v6 1).bind fun v7 =>
    (rcv h3 x0 [7]).bind fun b10 =>
    hb (f_X9_length b10 h3) fun v8 h9 =>
    iLE (v7 + v8) 200
      (b_X9_textWord_44 x0 0 x0 h9)
      (b_X9_textWord_44 x0 1 x0 h9))
    (b_X9_textWord_51 h3)
theorem B_X9_textWord_14 {M : hp_M} {G : va_G} {h0 : HP} (X : hp_X M G h0 "RenamedWordsModel" "textWord" cX9_textWord 2 none [] 3 88) (x0 : Option Nat) (s0 : Int) (s1 : Option Nat) (h : HP) : vv M G h0 2 (hp_End M G h0) jV h 14 [(0, LR x0)] [LI s0, LR s1] (b_X9_textWord_14 x0 s0 s1 h) := by
  unfold b_X9_textWord_14
  refine vv_iconst (pc := 14) X dX9_textWord_14 ?_
  refine vv_rcv (fun b4 t9 c9 fs9 e5 g9 k9 => ?_)
  cases List.mem_singleton.mp k9
  refine vv_callI (pc := 15) (rest := []) (by rw [e5]; rfl) (fun r8 k8 e8 => zz_callV X (m_X9_faulty (hlM X) _ _ _ _ _ _ e8) g9 rfl rfl q3612 q3614 qs59 q164 q3615 nh_X9 rfl (by decide) (by decide) (Nat.le_of_ble_eq_true rfl) dX9_textWord_15) (fun v2 h3 => ?_)
  refine vv_if_ne (pc := 18) (tgt := 51) X dX9_textWord_18 rfl ?_ ?_
  · exact vv_sub [] (by rfl) (B_X9_textWord_51 X _)
  · refine vv_aload_n (pc := 21) X (kf := 0) (i := 0) rfl 0 rfl dX9_textWord_21 ?_
    refine vv_aload_n (pc := 22) X (kf := 0) (i := 0) rfl 0 rfl dX9_textWord_22 ?_
    refine vv_getR (pc := 23) X (fun _ z => by cases List.mem_singleton.mp z; exact fl_X9_9_7) dX9_textWord_23 (fun v6 => ?_)
    refine vv_iconst (pc := 26) X dX9_textWord_26 ?_
    refine vv_iaload (pc := 27) X dX9_textWord_27 (fun v7 => ?_)
    refine vv_aload_n (pc := 28) X (kf := 0) (i := 0) rfl 0 rfl dX9_textWord_28 ?_
    refine vv_rcv (fun b10 t9 c9 fs9 e11 g9 k9 => ?_)
    cases List.mem_singleton.mp k9
    refine vv_callI (pc := 29) (rest := [LI v7, LR x0]) (by rw [e11]; rfl) (fun r8 k8 e8 => zz_callV X (m_X9_length (hlM X) _ _ _ _ e8) g9 rfl rfl q3606 q3608 qs58 q164 q3609 nh_X9 rfl (by decide) (by decide) (Nat.le_of_ble_eq_true rfl) dX9_textWord_29) (fun v8 h9 => ?_)
    refine vv_iadd (pc := 32) X dX9_textWord_32 ?_
    refine vv_sipush (pc := 33) X (by decide) dX9_textWord_33 ?_
    refine vv_icmp_le (pc := 36) (tgt := 43) X dX9_textWord_36 rfl ?_ ?_
    · refine vv_iconst (pc := 43) X dX9_textWord_43 ?_
      exact B_X9_textWord_44 X _ _ _ _
    · refine vv_iconst (pc := 39) X dX9_textWord_39 ?_
      refine vv_goto (pc := 40) (tgt := 44) X dX9_textWord_40 rfl ?_
      exact B_X9_textWord_44 X _ _ _ _
noncomputable def f_X9_textWord (a0 : Nat) (h : HP) : Option ((Unit) × HP) :=
  (rdI h (some a0) [7] 15).bind fun v1 =>
  iEQ v1 1
    (b_X9_textWord_14 (some a0) 0 (some a0) h)
    (b_X9_textWord_14 (some a0) 1 (some a0) h)
theorem A_X9_textWord {M : hp_M} {G : va_G} {h0 : HP} (X : hp_X M G h0 "RenamedWordsModel" "textWord" cX9_textWord 2 none [] 3 88) (a0 : Nat) (h : HP) : vv M G h0 2 (hp_End M G h0) jV h 0 [(0, LR (some a0))] [] (f_X9_textWord a0 h) := by
  unfold f_X9_textWord
  refine vv_aload_n (pc := 0) X (kf := 0) (i := 0) rfl 0 rfl dX9_textWord_0 ?_
  refine vv_aload_n (pc := 1) X (kf := 0) (i := 0) rfl 0 rfl dX9_textWord_1 ?_
  refine vv_getI (pc := 2) X (fun _ z => by cases List.mem_singleton.mp z; exact fl_X9_172_7) dX9_textWord_2 (fun v1 => ?_)
  refine vv_iconst (pc := 5) X dX9_textWord_5 ?_
  refine vv_icmp_eq (pc := 6) (tgt := 13) X dX9_textWord_6 rfl ?_ ?_
  · refine vv_iconst (pc := 13) X dX9_textWord_13 ?_
    exact B_X9_textWord_14 X _ _ _ _
  · refine vv_iconst (pc := 9) X dX9_textWord_9 ?_
    refine vv_goto (pc := 10) (tgt := 14) X dX9_textWord_10 rfl ?_
    exact B_X9_textWord_14 X _ _ _ _
theorem m_X9_textWord {l : Launch} (hl : l.stackTraces = false) {G : va_G} (a0 : Nat) (h : HP) : ∀ r hf, f_X9_textWord a0 h = some (r, hf) → Ct l yX9_textWord (ws_ yX9_textWord cX9_textWord 2 none) 3 88 G h [.ref a0] (jV r) hf :=
  zz_ofW hl (by decide +kernel) (lv := [(0, LR (some a0))]) (by simp [lv_args, lvL, lvV, zz_rfc, zz_rfs, zz_ci, zz_cr, zz_cj, zz_cf, zz_cd]) (by simp [lg_sl, zz_rfc, zz_ci, zz_cr, zz_cj, zz_cf, zz_cd]) (fun _ X => A_X9_textWord X a0 h)
-- X9_isSign RenamedWordsModel.isSign(I)Z
noncomputable def b_X9_isSign_33 (s0 : Int) (h : HP) : Option ((Int) × HP) :=
  rtZ s0 (some (s0, h))
theorem B_X9_isSign_33 {M : hp_M} {G : va_G} {h0 : HP} (X : hp_X M G h0 "RenamedWordsModel" "isSign" cX9_isSign 2 (some .boolean) [] 0 0) (s0 : Int) (h : HP) : vv M G h0 2 (hp_End M G h0) jI h 33 [] [LI s0] (b_X9_isSign_33 s0 h) := by
  unfold b_X9_isSign_33
  exact vv_iretZ X rfl rfl dX9_isSign_33
noncomputable def b_X9_isSign_32 (h : HP) : Option ((Int) × HP) :=
  b_X9_isSign_33 0 h
theorem B_X9_isSign_32 {M : hp_M} {G : va_G} {h0 : HP} (X : hp_X M G h0 "RenamedWordsModel" "isSign" cX9_isSign 2 (some .boolean) [] 0 0) (h : HP) : vv M G h0 2 (hp_End M G h0) jI h 32 [] [] (b_X9_isSign_32 h) := by
  unfold b_X9_isSign_32
  refine vv_iconst (pc := 32) X dX9_isSign_32 ?_
  exact B_X9_isSign_33 X _ _
noncomputable def f_X9_isSign (a0 : Nat) (a1 : Int) (h : HP) : Option ((Int) × HP) :=
  (rdI h (some a0) [7] 17).bind fun v1 =>
  iEQ v1 0
    ((rdI h (some a0) [7] 15).bind fun v2 =>
    iEQ v2 3
      ((rdR h (some a0) [7] 11).bind fun v3 =>
      (rdI h (some a0) [7] 13).bind fun v4 =>
      (aldI h .int v3 v4).bind fun v5 =>
      iEQ v5 a1
        (b_X9_isSign_33 1 h)
        (b_X9_isSign_32 h))
      (b_X9_isSign_32 h))
    (b_X9_isSign_32 h)
theorem A_X9_isSign {M : hp_M} {G : va_G} {h0 : HP} (X : hp_X M G h0 "RenamedWordsModel" "isSign" cX9_isSign 2 (some .boolean) [] 0 0) (a0 : Nat) (a1 : Int) (h : HP) : vv M G h0 2 (hp_End M G h0) jI h 0 [(0, LR (some a0)), (1, LI a1)] [] (f_X9_isSign a0 a1 h) := by
  unfold f_X9_isSign
  refine vv_aload_n (pc := 0) X (kf := 0) (i := 0) rfl 0 rfl dX9_isSign_0 ?_
  refine vv_getI (pc := 1) X (fun _ z => by cases List.mem_singleton.mp z; exact fl_X9_182_7) dX9_isSign_1 (fun v1 => ?_)
  refine vv_if_ne (pc := 4) (tgt := 32) X dX9_isSign_4 rfl ?_ ?_
  · exact vv_sub [] (by rfl) (B_X9_isSign_32 X _)
  · refine vv_aload_n (pc := 7) X (kf := 0) (i := 0) rfl 0 rfl dX9_isSign_7 ?_
    refine vv_getI (pc := 8) X (fun _ z => by cases List.mem_singleton.mp z; exact fl_X9_172_7) dX9_isSign_8 (fun v2 => ?_)
    refine vv_iconst (pc := 11) X dX9_isSign_11 ?_
    refine vv_icmp_ne (pc := 12) (tgt := 32) X dX9_isSign_12 rfl ?_ ?_
    · exact vv_sub [] (by rfl) (B_X9_isSign_32 X _)
    · refine vv_aload_n (pc := 15) X (kf := 0) (i := 0) rfl 0 rfl dX9_isSign_15 ?_
      refine vv_getR (pc := 16) X (fun _ z => by cases List.mem_singleton.mp z; exact fl_X9_38_7) dX9_isSign_16 (fun v3 => ?_)
      refine vv_aload_n (pc := 19) X (kf := 0) (i := 0) rfl 0 rfl dX9_isSign_19 ?_
      refine vv_getI (pc := 20) X (fun _ z => by cases List.mem_singleton.mp z; exact fl_X9_166_7) dX9_isSign_20 (fun v4 => ?_)
      refine vv_iaload (pc := 23) X dX9_isSign_23 (fun v5 => ?_)
      refine vv_iload_n (pc := 24) X (kf := 1) (i := 1) rfl 1 rfl dX9_isSign_24 ?_
      refine vv_icmp_ne (pc := 25) (tgt := 32) X dX9_isSign_25 rfl ?_ ?_
      · exact vv_sub [] (by rfl) (B_X9_isSign_32 X _)
      · refine vv_iconst (pc := 28) X dX9_isSign_28 ?_
        refine vv_goto (pc := 29) (tgt := 33) X dX9_isSign_29 rfl ?_
        exact vv_sub [] (by rfl) (B_X9_isSign_33 X _ _)
theorem m_X9_isSign {l : Launch} (hl : l.stackTraces = false) {G : va_G} (a0 : Nat) (a1 : Int) (h : HP) : ∀ r hf, f_X9_isSign a0 a1 h = some (r, hf) → Ct l yX9_isSign (ws_ yX9_isSign cX9_isSign 2 (some .boolean)) 0 0 G h [.ref a0, .int (iI a1)] (jI r) hf :=
  zz_ofW hl (by decide +kernel) (lv := [(0, LR (some a0)), (1, LI a1)]) (by simp [lv_args, lvL, lvV, zz_rfc, zz_rfs, zz_ci, zz_cr, zz_cj, zz_cf, zz_cd]) (by simp [lg_sl, zz_rfc, zz_ci, zz_cr, zz_cj, zz_cf, zz_cd]) (fun _ X => A_X9_isSign X a0 a1 h)
-- X9_noName RenamedWordsModel.noName()Z
noncomputable def b_X9_noName_23 (s0 : Int) (s1 : Option Nat) (h : HP) : Option ((Int) × HP) :=
  (rcv h s1 [7]).bind fun b4 =>
  hb (f_X9_faulty b4 s0 1 h) fun v2 h3 =>
  rtZ v2 (some (v2, h3))
theorem B_X9_noName_23 {M : hp_M} {G : va_G} {h0 : HP} (X : hp_X M G h0 "RenamedWordsModel" "noName" cX9_noName 1 (some .boolean) [] 1 30) (s0 : Int) (s1 : Option Nat) (h : HP) : vv M G h0 1 (hp_End M G h0) jI h 23 [] [LI s0, LR s1] (b_X9_noName_23 s0 s1 h) := by
  unfold b_X9_noName_23
  refine vv_iconst (pc := 23) X dX9_noName_23 ?_
  refine vv_rcv (fun b4 t9 c9 fs9 e5 g9 k9 => ?_)
  cases List.mem_singleton.mp k9
  refine vv_callI (pc := 24) (rest := []) (by rw [e5]; rfl) (fun r8 k8 e8 => zz_callV X (m_X9_faulty (hlM X) _ _ _ _ _ _ e8) g9 rfl rfl q3612 q3614 qs59 q164 q3615 nh_X9 rfl (by decide) (by decide) (Nat.le_of_ble_eq_true rfl) dX9_noName_24) (fun v2 h3 => ?_)
  exact vv_iretZ X rfl rfl dX9_noName_27
noncomputable def b_X9_noName_18 (s0 : Option Nat) (h : HP) : Option ((Int) × HP) :=
  b_X9_noName_23 1 s0 h
theorem B_X9_noName_18 {M : hp_M} {G : va_G} {h0 : HP} (X : hp_X M G h0 "RenamedWordsModel" "noName" cX9_noName 1 (some .boolean) [] 1 30) (s0 : Option Nat) (h : HP) : vv M G h0 1 (hp_End M G h0) jI h 18 [] [LR s0] (b_X9_noName_18 s0 h) := by
  unfold b_X9_noName_18
  refine vv_iconst (pc := 18) X dX9_noName_18 ?_
  refine vv_goto (pc := 19) (tgt := 23) X dX9_noName_19 rfl ?_
  exact B_X9_noName_23 X _ _ _
noncomputable def f_X9_noName (a0 : Nat) (h : HP) : Option ((Int) × HP) :=
  (rdI h (some a0) [7] 15).bind fun v1 =>
  iEQ v1 1
    ((rcv h (some a0) [7]).bind fun b8 =>
    hb (f_X9_length b8 h) fun v6 h7 =>
    iLE v6 8
      (b_X9_noName_23 0 (some a0) h7)
      (b_X9_noName_18 (some a0) h7))
    (b_X9_noName_18 (some a0) h)
theorem A_X9_noName {M : hp_M} {G : va_G} {h0 : HP} (X : hp_X M G h0 "RenamedWordsModel" "noName" cX9_noName 1 (some .boolean) [] 1 30) (a0 : Nat) (h : HP) : vv M G h0 1 (hp_End M G h0) jI h 0 [(0, LR (some a0))] [] (f_X9_noName a0 h) := by
  unfold f_X9_noName
  refine vv_aload_n (pc := 0) X (kf := 0) (i := 0) rfl 0 rfl dX9_noName_0 ?_
  refine vv_aload_n (pc := 1) X (kf := 0) (i := 0) rfl 0 rfl dX9_noName_1 ?_
  refine vv_getI (pc := 2) X (fun _ z => by cases List.mem_singleton.mp z; exact fl_X9_172_7) dX9_noName_2 (fun v1 => ?_)
  refine vv_iconst (pc := 5) X dX9_noName_5 ?_
  refine vv_icmp_ne (pc := 6) (tgt := 18) X dX9_noName_6 rfl ?_ ?_
  · exact vv_sub [] (by rfl) (B_X9_noName_18 X _ _)
  · refine vv_aload_n (pc := 9) X (kf := 0) (i := 0) rfl 0 rfl dX9_noName_9 ?_
    refine vv_rcv (fun b8 t9 c9 fs9 e9 g9 k9 => ?_)
    cases List.mem_singleton.mp k9
    refine vv_callI (pc := 10) (rest := [LR (some a0)]) (by rw [e9]; rfl) (fun r8 k8 e8 => zz_callV X (m_X9_length (hlM X) _ _ _ _ e8) g9 rfl rfl q3606 q3608 qs58 q164 q3609 nh_X9 rfl (by decide) (by decide) (Nat.le_of_ble_eq_true rfl) dX9_noName_10) (fun v6 h7 => ?_)
    refine vv_bipush (pc := 13) X (by decide) dX9_noName_13 ?_
    refine vv_icmp_le (pc := 15) (tgt := 22) X dX9_noName_15 rfl ?_ ?_
    · refine vv_iconst (pc := 22) X dX9_noName_22 ?_
      exact vv_sub [] (by rfl) (B_X9_noName_23 X _ _ _)
    · exact vv_sub [] (by rfl) (B_X9_noName_18 X _ _)
theorem m_X9_noName {l : Launch} (hl : l.stackTraces = false) {G : va_G} (a0 : Nat) (h : HP) : ∀ r hf, f_X9_noName a0 h = some (r, hf) → Ct l yX9_noName (ws_ yX9_noName cX9_noName 1 (some .boolean)) 1 30 G h [.ref a0] (jI r) hf :=
  zz_ofW hl (by decide +kernel) (lv := [(0, LR (some a0))]) (by simp [lv_args, lvL, lvV, zz_rfc, zz_rfs, zz_ci, zz_cr, zz_cj, zz_cf, zz_cd]) (by simp [lg_sl, zz_rfc, zz_ci, zz_cr, zz_cj, zz_cf, zz_cd]) (fun _ X => A_X9_noName X a0 h)
-- X9_isName RenamedWordsModel.isName(I)Z
noncomputable def c_X9_isName_28 (r28 : Option Nat → Int → Int → HP → Option ((Int) × HP)) (x0 : Option Nat) (x2 : Int) (x3 : Int) (h : HP) : Option ((Int) × HP) :=
  (rcv h x0 [7]).bind fun b9 =>
  hb (f_X9_length b9 h) fun v7 h8 =>
  iLE v7 x3
    (some (1, h8))
    ((rdR h8 x0 [7] 0).bind fun v11 =>
    (aldI h8 .int v11 ((x2 + 1) + x3)).bind fun v12 =>
    (rdR h8 x0 [7] 11).bind fun v13 =>
    (rdI h8 x0 [7] 13).bind fun v14 =>
    (aldI h8 .int v13 (v14 + x3)).bind fun v15 =>
    iEQ v12 v15
      (r28 x0 x2 (x3 + 1) h8)
      (some (0, h8)))
noncomputable def b_X9_isName_28 : Option Nat → Int → Int → HP → Option ((Int) × HP) := fx (fun _ _ _ _ => none) (c_X9_isName_28) FU
theorem C_X9_isName_28 {M : hp_M} {G : va_G} {h0 : HP} (X : hp_X M G h0 "RenamedWordsModel" "isName" cX9_isName 4 (some .boolean) [] 1 28) (r28 : Option Nat → Int → Int → HP → Option ((Int) × HP)) (hr28 : ∀ (y0 : Option Nat) (y2 : Int) (y3 : Int) (h : HP), vv M G h0 4 (hp_End M G h0) jI h 28 [(0, LR y0), (2, LI y2), (3, LI y3)] [] (r28 y0 y2 y3 h)) (x0 : Option Nat) (x2 : Int) (x3 : Int) (h : HP) : vv M G h0 4 (hp_End M G h0) jI h 28 [(0, LR x0), (2, LI x2), (3, LI x3)] [] (c_X9_isName_28 r28 x0 x2 x3 h) := by
  unfold c_X9_isName_28
  refine vv_iload_n (pc := 28) X (kf := 3) (i := 3) rfl 2 rfl dX9_isName_28 ?_
  refine vv_aload_n (pc := 29) X (kf := 0) (i := 0) rfl 0 rfl dX9_isName_29 ?_
  refine vv_rcv (fun b9 t9 c9 fs9 e10 g9 k9 => ?_)
  cases List.mem_singleton.mp k9
  refine vv_callI (pc := 30) (rest := [LI x3]) (by rw [e10]; rfl) (fun r8 k8 e8 => zz_callV X (m_X9_length (hlM X) _ _ _ _ e8) g9 rfl rfl q3606 q3608 qs58 q164 q3609 nh_X9 rfl (by decide) (by decide) (Nat.le_of_ble_eq_true rfl) dX9_isName_30) (fun v7 h8 => ?_)
  refine vv_icmp_ge (pc := 33) (tgt := 68) X dX9_isName_33 rfl ?_ ?_
  · refine vv_iconst (pc := 68) X dX9_isName_68 ?_
    exact vv_iret1 X rfl rfl dX9_isName_69
  · refine vv_aload_n (pc := 36) X (kf := 0) (i := 0) rfl 0 rfl dX9_isName_36 ?_
    refine vv_getR (pc := 37) X (fun _ z => by cases List.mem_singleton.mp z; exact fl_X9_9_7) dX9_isName_37 (fun v11 => ?_)
    refine vv_iload_n (pc := 40) X (kf := 2) (i := 2) rfl 1 rfl dX9_isName_40 ?_
    refine vv_iconst (pc := 41) X dX9_isName_41 ?_
    refine vv_iadd (pc := 42) X dX9_isName_42 ?_
    refine vv_iload_n (pc := 43) X (kf := 3) (i := 3) rfl 2 rfl dX9_isName_43 ?_
    refine vv_iadd (pc := 44) X dX9_isName_44 ?_
    refine vv_iaload (pc := 45) X dX9_isName_45 (fun v12 => ?_)
    refine vv_aload_n (pc := 46) X (kf := 0) (i := 0) rfl 0 rfl dX9_isName_46 ?_
    refine vv_getR (pc := 47) X (fun _ z => by cases List.mem_singleton.mp z; exact fl_X9_38_7) dX9_isName_47 (fun v13 => ?_)
    refine vv_aload_n (pc := 50) X (kf := 0) (i := 0) rfl 0 rfl dX9_isName_50 ?_
    refine vv_getI (pc := 51) X (fun _ z => by cases List.mem_singleton.mp z; exact fl_X9_166_7) dX9_isName_51 (fun v14 => ?_)
    refine vv_iload_n (pc := 54) X (kf := 3) (i := 3) rfl 2 rfl dX9_isName_54 ?_
    refine vv_iadd (pc := 55) X dX9_isName_55 ?_
    refine vv_iaload (pc := 56) X dX9_isName_56 (fun v15 => ?_)
    refine vv_icmp_eq (pc := 57) (tgt := 62) X dX9_isName_57 rfl ?_ ?_
    · refine vv_iinc (pc := 62) (lv' := [(3, LI (x3 + 1)), (0, LR x0), (2, LI x2)]) X 2 rfl (by decide) rfl dX9_isName_62 ?_
      refine vv_goto (pc := 65) (tgt := 28) X dX9_isName_65 rfl ?_
      exact vv_sub [1, 2, 0] (by rfl) (hr28 _ _ _ _)
    · refine vv_iconst (pc := 60) X dX9_isName_60 ?_
      exact vv_iret0 X rfl rfl dX9_isName_61
theorem B_X9_isName_28 {M : hp_M} {G : va_G} {h0 : HP} (X : hp_X M G h0 "RenamedWordsModel" "isName" cX9_isName 4 (some .boolean) [] 1 28) : ∀ (x0 : Option Nat) (x2 : Int) (x3 : Int) (h : HP), vv M G h0 4 (hp_End M G h0) jI h 28 [(0, LR x0), (2, LI x2), (3, LI x3)] [] (b_X9_isName_28 x0 x2 x3 h) := by
  unfold b_X9_isName_28
  generalize FU = n
  induction n with
  | zero => intro x0 x2 x3 h; exact vv_none
  | succ n ih => exact C_X9_isName_28 X _ ih
noncomputable def f_X9_isName (a0 : Nat) (a1 : Int) (h : HP) : Option ((Int) × HP) :=
  (rdR h (some a0) [7] 0).bind fun v1 =>
  (aldI h .int v1 ((216 + (30 * a1)) + 1)).bind fun v2 =>
  (rcv h (some a0) [7]).bind fun b5 =>
  hb (f_X9_length b5 h) fun v3 h4 =>
  iEQ v2 v3
    (b_X9_isName_28 (some a0) ((216 + (30 * a1)) + 1) 0 h4)
    (some (0, h4))
theorem A_X9_isName {M : hp_M} {G : va_G} {h0 : HP} (X : hp_X M G h0 "RenamedWordsModel" "isName" cX9_isName 4 (some .boolean) [] 1 28) (a0 : Nat) (a1 : Int) (h : HP) : vv M G h0 4 (hp_End M G h0) jI h 0 [(0, LR (some a0)), (1, LI a1)] [] (f_X9_isName a0 a1 h) := by
  unfold f_X9_isName
  refine vv_sipush (pc := 0) X (by decide) dX9_isName_0 ?_
  refine vv_bipush (pc := 3) X (by decide) dX9_isName_3 ?_
  refine vv_iload_n (pc := 5) X (kf := 1) (i := 1) rfl 1 rfl dX9_isName_5 ?_
  refine vv_imul (pc := 6) X dX9_isName_6 ?_
  refine vv_iadd (pc := 7) X dX9_isName_7 ?_
  refine vv_iconst (pc := 8) X dX9_isName_8 ?_
  refine vv_iadd (pc := 9) X dX9_isName_9 ?_
  refine vv_istore_n (pc := 10) (lv' := [(2, LI ((216 + (30 * a1)) + 1)), (0, LR (some a0)), (1, LI a1)]) X (kf := 2) (i := 2) rfl (by decide) rfl dX9_isName_10 ?_
  refine vv_aload_n (pc := 11) X (kf := 0) (i := 0) rfl 1 rfl dX9_isName_11 ?_
  refine vv_getR (pc := 12) X (fun _ z => by cases List.mem_singleton.mp z; exact fl_X9_9_7) dX9_isName_12 (fun v1 => ?_)
  refine vv_iload_n (pc := 15) X (kf := 2) (i := 2) rfl 0 rfl dX9_isName_15 ?_
  refine vv_iaload (pc := 16) X dX9_isName_16 (fun v2 => ?_)
  refine vv_aload_n (pc := 17) X (kf := 0) (i := 0) rfl 1 rfl dX9_isName_17 ?_
  refine vv_rcv (fun b5 t9 c9 fs9 e6 g9 k9 => ?_)
  cases List.mem_singleton.mp k9
  refine vv_callI (pc := 18) (rest := [LI v2]) (by rw [e6]; rfl) (fun r8 k8 e8 => zz_callV X (m_X9_length (hlM X) _ _ _ _ e8) g9 rfl rfl q3606 q3608 qs58 q164 q3609 nh_X9 rfl (by decide) (by decide) (Nat.le_of_ble_eq_true rfl) dX9_isName_18) (fun v3 h4 => ?_)
  refine vv_icmp_eq (pc := 21) (tgt := 26) X dX9_isName_21 rfl ?_ ?_
  · refine vv_iconst (pc := 26) X dX9_isName_26 ?_
    refine vv_istore_n (pc := 27) (lv' := [(3, LI 0), (2, LI ((216 + (30 * a1)) + 1)), (0, LR (some a0)), (1, LI a1)]) X (kf := 3) (i := 3) rfl (by decide) rfl dX9_isName_27 ?_
    exact vv_sub [2, 1, 0] (by rfl) (B_X9_isName_28 X _ _ _ _)
  · refine vv_iconst (pc := 24) X dX9_isName_24 ?_
    exact vv_iret0 X rfl rfl dX9_isName_25
theorem m_X9_isName {l : Launch} (hl : l.stackTraces = false) {G : va_G} (a0 : Nat) (a1 : Int) (h : HP) : ∀ r hf, f_X9_isName a0 a1 h = some (r, hf) → Ct l yX9_isName (ws_ yX9_isName cX9_isName 4 (some .boolean)) 1 28 G h [.ref a0, .int (iI a1)] (jI r) hf :=
  zz_ofW hl (by decide +kernel) (lv := [(0, LR (some a0)), (1, LI a1)]) (by simp [lv_args, lvL, lvV, zz_rfc, zz_rfs, zz_ci, zz_cr, zz_cj, zz_cf, zz_cd]) (by simp [lg_sl, zz_rfc, zz_ci, zz_cr, zz_cj, zz_cf, zz_cd]) (fun _ X => A_X9_isName X a0 a1 h)
-- X9_found RenamedWordsModel.found()I
noncomputable def c_X9_found_2 (r2 : Option Nat → Int → HP → Option ((Int) × HP)) (x0 : Option Nat) (x1 : Int) (h : HP) : Option ((Int) × HP) :=
  (rdR h x0 [7] 0).bind fun v1 =>
  (aldI h .int v1 2).bind fun v2 =>
  iLE v2 x1
    (some ((-1), h))
    ((rcv h x0 [7]).bind fun b5 =>
    hb (f_X9_isName b5 x1 h) fun v3 h4 =>
    iEQ v3 0
      (r2 x0 (x1 + 1) h4)
      (some (x1, h4)))
noncomputable def b_X9_found_2 : Option Nat → Int → HP → Option ((Int) × HP) := fx (fun _ _ _ => none) (c_X9_found_2) FU
theorem C_X9_found_2 {M : hp_M} {G : va_G} {h0 : HP} (X : hp_X M G h0 "RenamedWordsModel" "found" cX9_found 2 (some .int) [] 2 59) (r2 : Option Nat → Int → HP → Option ((Int) × HP)) (hr2 : ∀ (y0 : Option Nat) (y1 : Int) (h : HP), vv M G h0 2 (hp_End M G h0) jI h 2 [(0, LR y0), (1, LI y1)] [] (r2 y0 y1 h)) (x0 : Option Nat) (x1 : Int) (h : HP) : vv M G h0 2 (hp_End M G h0) jI h 2 [(0, LR x0), (1, LI x1)] [] (c_X9_found_2 r2 x0 x1 h) := by
  unfold c_X9_found_2
  refine vv_iload_n (pc := 2) X (kf := 1) (i := 1) rfl 1 rfl dX9_found_2 ?_
  refine vv_aload_n (pc := 3) X (kf := 0) (i := 0) rfl 0 rfl dX9_found_3 ?_
  refine vv_getR (pc := 4) X (fun _ z => by cases List.mem_singleton.mp z; exact fl_X9_9_7) dX9_found_4 (fun v1 => ?_)
  refine vv_iconst (pc := 7) X dX9_found_7 ?_
  refine vv_iaload (pc := 8) X dX9_found_8 (fun v2 => ?_)
  refine vv_icmp_ge (pc := 9) (tgt := 28) X dX9_found_9 rfl ?_ ?_
  · refine vv_iconst (pc := 28) X dX9_found_28 ?_
    exact vv_iretI X rfl rfl dX9_found_29
  · refine vv_aload_n (pc := 12) X (kf := 0) (i := 0) rfl 0 rfl dX9_found_12 ?_
    refine vv_iload_n (pc := 13) X (kf := 1) (i := 1) rfl 1 rfl dX9_found_13 ?_
    refine vv_rcv (fun b5 t9 c9 fs9 e6 g9 k9 => ?_)
    cases List.mem_singleton.mp k9
    refine vv_callI (pc := 14) (rest := []) (by rw [e6]; rfl) (fun r8 k8 e8 => zz_callV X (m_X9_isName (hlM X) _ _ _ _ _ e8) g9 rfl rfl q3637 q3639 qs65 q164 q3640 nh_X9 rfl (by decide) (by decide) (Nat.le_of_ble_eq_true rfl) dX9_found_14) (fun v3 h4 => ?_)
    refine vv_if_eq (pc := 17) (tgt := 22) X dX9_found_17 rfl ?_ ?_
    · refine vv_iinc (pc := 22) (lv' := [(1, LI (x1 + 1)), (0, LR x0)]) X 1 rfl (by decide) rfl dX9_found_22 ?_
      refine vv_goto (pc := 25) (tgt := 2) X dX9_found_25 rfl ?_
      exact vv_sub [1, 0] (by rfl) (hr2 _ _ _)
    · refine vv_iload_n (pc := 20) X (kf := 1) (i := 1) rfl 1 rfl dX9_found_20 ?_
      exact vv_iretI X rfl rfl dX9_found_21
theorem B_X9_found_2 {M : hp_M} {G : va_G} {h0 : HP} (X : hp_X M G h0 "RenamedWordsModel" "found" cX9_found 2 (some .int) [] 2 59) : ∀ (x0 : Option Nat) (x1 : Int) (h : HP), vv M G h0 2 (hp_End M G h0) jI h 2 [(0, LR x0), (1, LI x1)] [] (b_X9_found_2 x0 x1 h) := by
  unfold b_X9_found_2
  generalize FU = n
  induction n with
  | zero => intro x0 x1 h; exact vv_none
  | succ n ih => exact C_X9_found_2 X _ ih
noncomputable def f_X9_found (a0 : Nat) (h : HP) : Option ((Int) × HP) :=
  b_X9_found_2 (some a0) 0 h
theorem A_X9_found {M : hp_M} {G : va_G} {h0 : HP} (X : hp_X M G h0 "RenamedWordsModel" "found" cX9_found 2 (some .int) [] 2 59) (a0 : Nat) (h : HP) : vv M G h0 2 (hp_End M G h0) jI h 0 [(0, LR (some a0))] [] (f_X9_found a0 h) := by
  unfold f_X9_found
  refine vv_iconst (pc := 0) X dX9_found_0 ?_
  refine vv_istore_n (pc := 1) (lv' := [(1, LI 0), (0, LR (some a0))]) X (kf := 1) (i := 1) rfl (by decide) rfl dX9_found_1 ?_
  exact vv_sub [1, 0] (by rfl) (B_X9_found_2 X _ _ _)
theorem m_X9_found {l : Launch} (hl : l.stackTraces = false) {G : va_G} (a0 : Nat) (h : HP) : ∀ r hf, f_X9_found a0 h = some (r, hf) → Ct l yX9_found (ws_ yX9_found cX9_found 2 (some .int)) 2 59 G h [.ref a0] (jI r) hf :=
  zz_ofW hl (by decide +kernel) (lv := [(0, LR (some a0))]) (by simp [lv_args, lvL, lvV, zz_rfc, zz_rfs, zz_ci, zz_cr, zz_cj, zz_cf, zz_cd]) (by simp [lg_sl, zz_rfc, zz_ci, zz_cr, zz_cj, zz_cf, zz_cd]) (fun _ X => A_X9_found X a0 h)
-- X9_puts RenamedWordsModel.puts(III)V
noncomputable def f_X9_puts (a0 : Nat) (a1 : Int) (a2 : Int) (a3 : Int) (h : HP) : Option ((Unit) × HP) :=
  (rdR h (some a0) [7] 0).bind fun v1 =>
  (astI h .int v1 ((216 + (30 * a1)) + a2) a3).bind fun h2 =>
  some ((), h2)
theorem A_X9_puts {M : hp_M} {G : va_G} {h0 : HP} (X : hp_X M G h0 "RenamedWordsModel" "puts" cX9_puts 4 none [] 0 0) (a0 : Nat) (a1 : Int) (a2 : Int) (a3 : Int) (h : HP) : vv M G h0 4 (hp_End M G h0) jV h 0 [(0, LR (some a0)), (1, LI a1), (2, LI a2), (3, LI a3)] [] (f_X9_puts a0 a1 a2 a3 h) := by
  unfold f_X9_puts
  refine vv_aload_n (pc := 0) X (kf := 0) (i := 0) rfl 0 rfl dX9_puts_0 ?_
  refine vv_getR (pc := 1) X (fun _ z => by cases List.mem_singleton.mp z; exact fl_X9_9_7) dX9_puts_1 (fun v1 => ?_)
  refine vv_sipush (pc := 4) X (by decide) dX9_puts_4 ?_
  refine vv_bipush (pc := 7) X (by decide) dX9_puts_7 ?_
  refine vv_iload_n (pc := 9) X (kf := 1) (i := 1) rfl 1 rfl dX9_puts_9 ?_
  refine vv_imul (pc := 10) X dX9_puts_10 ?_
  refine vv_iadd (pc := 11) X dX9_puts_11 ?_
  refine vv_iload_n (pc := 12) X (kf := 2) (i := 2) rfl 2 rfl dX9_puts_12 ?_
  refine vv_iadd (pc := 13) X dX9_puts_13 ?_
  refine vv_iload_n (pc := 14) X (kf := 3) (i := 3) rfl 3 rfl dX9_puts_14 ?_
  refine vv_iastore (pc := 15) X dX9_puts_15 (fun h2 => ?_)
  exact vv_vreturn X rfl rfl dX9_puts_16
theorem m_X9_puts {l : Launch} (hl : l.stackTraces = false) {G : va_G} (a0 : Nat) (a1 : Int) (a2 : Int) (a3 : Int) (h : HP) : ∀ r hf, f_X9_puts a0 a1 a2 a3 h = some (r, hf) → Ct l yX9_puts (ws_ yX9_puts cX9_puts 4 none) 0 0 G h [.ref a0, .int (iI a1), .int (iI a2), .int (iI a3)] (jV r) hf :=
  zz_ofW hl (by decide +kernel) (lv := [(0, LR (some a0)), (1, LI a1), (2, LI a2), (3, LI a3)]) (by simp [lv_args, lvL, lvV, zz_rfc, zz_rfs, zz_ci, zz_cr, zz_cj, zz_cf, zz_cd]) (by simp [lg_sl, zz_rfc, zz_ci, zz_cr, zz_cj, zz_cf, zz_cd]) (fun _ X => A_X9_puts X a0 a1 a2 a3 h)
