/-! STAGE 1c: functions and contracts (printed by gen/mkfuncs.py). -/
set_option maxRecDepth 100000
set_option linter.unusedVariables false
-- X9_noSlot RenamedWordsModel.noSlot(I)Z
noncomputable def b_X9_noSlot_15 (s0 : Int) (s1 : Option Nat) (h : HP) : Option ((Int) × HP) :=
  (rcv h s1 [7]).bind fun b5 =>
  hb (f_X9_fails b5 s0 1 h) fun v3 h4 =>
  rtZ v3 (some (v3, h4))
theorem B_X9_noSlot_15 {M : hp_M} {G : va_G} {h0 : HP} (X : hp_X M G h0 "RenamedWordsModel" "noSlot" cX9_noSlot 2 (some .boolean) [] 1 30) (s0 : Int) (s1 : Option Nat) (h : HP) : vv M G h0 2 (hp_End M G h0) jI h 15 [] [LI s0, LR s1] (b_X9_noSlot_15 s0 s1 h) := by
  unfold b_X9_noSlot_15
  refine vv_iconst (pc := 15) X dX9_noSlot_15 ?_
  refine vv_rcv (fun b5 t9 c9 fs9 e6 g9 k9 => ?_)
  cases List.mem_singleton.mp k9
  refine vv_callI (pc := 16) (rest := []) (by rw [e6]; rfl) (fun r8 k8 e8 => zz_callV X (m_X9_fails (hlM X) _ _ _ _ _ _ e8) g9 rfl rfl q3841 q3843 qs109 q164 q3844 nh_X9 rfl (by decide) (by decide) (Nat.le_of_ble_eq_true rfl) dX9_noSlot_16) (fun v3 h4 => ?_)
  exact vv_iretZ X rfl rfl dX9_noSlot_19
noncomputable def f_X9_noSlot (a0 : Nat) (a1 : Int) (h : HP) : Option ((Int) × HP) :=
  hb (f_X9_in a1 0 1 h) fun v1 h2 =>
  iEQ v1 0
    (b_X9_noSlot_15 1 (some a0) h2)
    (b_X9_noSlot_15 0 (some a0) h2)
theorem A_X9_noSlot {M : hp_M} {G : va_G} {h0 : HP} (X : hp_X M G h0 "RenamedWordsModel" "noSlot" cX9_noSlot 2 (some .boolean) [] 1 30) (a0 : Nat) (a1 : Int) (h : HP) : vv M G h0 2 (hp_End M G h0) jI h 0 [(0, LR (some a0)), (1, LI a1)] [] (f_X9_noSlot a0 a1 h) := by
  unfold f_X9_noSlot
  refine vv_aload_n (pc := 0) X (kf := 0) (i := 0) rfl 0 rfl dX9_noSlot_0 ?_
  refine vv_iload_n (pc := 1) X (kf := 1) (i := 1) rfl 1 rfl dX9_noSlot_1 ?_
  refine vv_iconst (pc := 2) X dX9_noSlot_2 ?_
  refine vv_iconst (pc := 3) X dX9_noSlot_3 ?_
  refine vv_callI (pc := 4) (rest := [LR (some a0)]) (by rfl) (fun r8 k8 e8 => zz_callS X (m_X9_in (hlM X) _ _ _ _ _ _ e8) q3593 q3594 q164 q3595 nh_X9 rfl (by decide) (by decide) (Nat.le_of_ble_eq_true rfl) dX9_noSlot_4) (fun v1 h2 => ?_)
  refine vv_if_ne (pc := 7) (tgt := 14) X dX9_noSlot_7 rfl ?_ ?_
  · refine vv_iconst (pc := 14) X dX9_noSlot_14 ?_
    exact vv_sub [] (by rfl) (B_X9_noSlot_15 X _ _ _)
  · refine vv_iconst (pc := 10) X dX9_noSlot_10 ?_
    refine vv_goto (pc := 11) (tgt := 15) X dX9_noSlot_11 rfl ?_
    exact vv_sub [] (by rfl) (B_X9_noSlot_15 X _ _ _)
theorem m_X9_noSlot {l : Launch} (hl : l.stackTraces = false) {G : va_G} (a0 : Nat) (a1 : Int) (h : HP) : ∀ r hf, f_X9_noSlot a0 a1 h = some (r, hf) → Ct l yX9_noSlot (ws_ yX9_noSlot cX9_noSlot 2 (some .boolean)) 1 30 G h [.ref a0, .int (iI a1)] (jI r) hf :=
  zz_ofW hl (by decide +kernel) (lv := [(0, LR (some a0)), (1, LI a1)]) (by simp [lv_args, lvL, lvV, zz_rfc, zz_rfs, zz_ci, zz_cr, zz_cj, zz_cf, zz_cd]) (by simp [lg_sl, zz_rfc, zz_ci, zz_cr, zz_cj, zz_cf, zz_cd]) (fun _ X => A_X9_noSlot X a0 a1 h)
-- X9_save RenamedWordsModel.save(I)I
noncomputable def f_X9_save (a0 : Nat) (a1 : Int) (h : HP) : Option ((Int) × HP) :=
  (wrI h (some a0) [7] 7 0).bind fun h1 =>
  (rcv h1 (some a0) [7]).bind fun b4 =>
  hb (f_X9_noSlot b4 a1 h1) fun v2 h3 =>
  iEQ v2 0
    ((rdR h3 (some a0) [7] 0).bind fun v6 =>
    (rdR h3 (some a0) [7] 4).bind fun v7 =>
    hb (f_X9_lays v6 0 v7 (576 * a1) h3) fun _ h9 =>
    (rdR h9 (some a0) [7] 5).bind fun v10 =>
    (astZ h9 v10 a1 1).bind fun h11 =>
    (rdR h11 (some a0) [7] 0).bind fun v12 =>
    (aldI h11 .int v12 1).bind fun v13 =>
    some (v13, h11))
    (some (0, h3))
theorem A_X9_save {M : hp_M} {G : va_G} {h0 : HP} (X : hp_X M G h0 "RenamedWordsModel" "save" cX9_save 2 (some .int) [] 2 59) (a0 : Nat) (a1 : Int) (h : HP) : vv M G h0 2 (hp_End M G h0) jI h 0 [(0, LR (some a0)), (1, LI a1)] [] (f_X9_save a0 a1 h) := by
  unfold f_X9_save
  refine vv_aload_n (pc := 0) X (kf := 0) (i := 0) rfl 0 rfl dX9_save_0 ?_
  refine vv_iconst (pc := 1) X dX9_save_1 ?_
  refine vv_putI (pc := 2) (fin := false) X (fun _ z => by cases List.mem_singleton.mp z; exact fl_X9_69_7) (fun z => nomatch z) (fun z => nomatch z) dX9_save_2 (fun h1 => ?_)
  refine vv_aload_n (pc := 5) X (kf := 0) (i := 0) rfl 0 rfl dX9_save_5 ?_
  refine vv_iload_n (pc := 6) X (kf := 1) (i := 1) rfl 1 rfl dX9_save_6 ?_
  refine vv_rcv (fun b4 t9 c9 fs9 e5 g9 k9 => ?_)
  cases List.mem_singleton.mp k9
  refine vv_callI (pc := 7) (rest := []) (by rw [e5]; rfl) (fun r8 k8 e8 => zz_callV X (m_X9_noSlot (hlM X) _ _ _ _ _ e8) g9 rfl rfl q4079 q4081 qs130 q164 q4082 nh_X9 rfl (by decide) (by decide) (Nat.le_of_ble_eq_true rfl) dX9_save_7) (fun v2 h3 => ?_)
  refine vv_if_eq (pc := 10) (tgt := 15) X dX9_save_10 rfl ?_ ?_
  · refine vv_aload_n (pc := 15) X (kf := 0) (i := 0) rfl 0 rfl dX9_save_15 ?_
    refine vv_getR (pc := 16) X (fun _ z => by cases List.mem_singleton.mp z; exact fl_X9_9_7) dX9_save_16 (fun v6 => ?_)
    refine vv_iconst (pc := 19) X dX9_save_19 ?_
    refine vv_aload_n (pc := 20) X (kf := 0) (i := 0) rfl 0 rfl dX9_save_20 ?_
    refine vv_getR (pc := 21) X (fun _ z => by cases List.mem_singleton.mp z; exact fl_X9_22_7) dX9_save_21 (fun v7 => ?_)
    refine vv_sipush (pc := 24) X (by decide) dX9_save_24 ?_
    refine vv_iload_n (pc := 27) X (kf := 1) (i := 1) rfl 1 rfl dX9_save_27 ?_
    refine vv_imul (pc := 28) X dX9_save_28 ?_
    refine vv_callV (pc := 29) (rest := []) (by rfl) (fun r8 k8 e8 => zz_callS X (m_X9_lays (hlM X) _ _ _ _ _ _ _ e8) q3574 q3575 q164 q3576 nh_X9 rfl (by decide) (by decide) (Nat.le_of_ble_eq_true rfl) dX9_save_29) (fun v8 h9 => ?_)
    refine vv_aload_n (pc := 32) X (kf := 0) (i := 0) rfl 0 rfl dX9_save_32 ?_
    refine vv_getR (pc := 33) X (fun _ z => by cases List.mem_singleton.mp z; exact fl_X9_25_7) dX9_save_33 (fun v10 => ?_)
    refine vv_iload_n (pc := 36) X (kf := 1) (i := 1) rfl 1 rfl dX9_save_36 ?_
    refine vv_iconst (pc := 37) X dX9_save_37 ?_
    refine vv_zastore (pc := 38) X dX9_save_38 (fun h11 => ?_)
    refine vv_aload_n (pc := 39) X (kf := 0) (i := 0) rfl 0 rfl dX9_save_39 ?_
    refine vv_getR (pc := 40) X (fun _ z => by cases List.mem_singleton.mp z; exact fl_X9_9_7) dX9_save_40 (fun v12 => ?_)
    refine vv_iconst (pc := 43) X dX9_save_43 ?_
    refine vv_iaload (pc := 44) X dX9_save_44 (fun v13 => ?_)
    exact vv_iretI X rfl rfl dX9_save_45
  · refine vv_iconst (pc := 13) X dX9_save_13 ?_
    exact vv_iretI X rfl rfl dX9_save_14
theorem m_X9_save {l : Launch} (hl : l.stackTraces = false) {G : va_G} (a0 : Nat) (a1 : Int) (h : HP) : ∀ r hf, f_X9_save a0 a1 h = some (r, hf) → Ct l yX9_save (ws_ yX9_save cX9_save 2 (some .int)) 2 59 G h [.ref a0, .int (iI a1)] (jI r) hf :=
  zz_ofW hl (by decide +kernel) (lv := [(0, LR (some a0)), (1, LI a1)]) (by simp [lv_args, lvL, lvV, zz_rfc, zz_rfs, zz_ci, zz_cr, zz_cj, zz_cf, zz_cd]) (by simp [lg_sl, zz_rfc, zz_ci, zz_cr, zz_cj, zz_cf, zz_cd]) (fun _ X => A_X9_save X a0 a1 h)
-- X1_restore RenamedWords.restore(I)I
noncomputable def b_X1_restore_18 (x0 : Option Nat) (x1 : Int) (s0 : Int) (h : HP) : Option ((Nat ⊕ Int) × HP) :=
  hbx (f_X1_element s0 h) (fun q9 h10 =>
      some (.inl q9, h10)) fun _ h8 =>
  (rdR h8 x0 [0] 3).bind fun v11 =>
  (aldR h8 "RenamedWords$Desk" v11 x1).bind fun v12 =>
  (rcv h8 v12 [1]).bind fun b15 =>
  hb (f_X2_copy b15 h8) fun v13 h14 =>
  (wrR h14 x0 [0] 0 v13).bind fun h17 =>
  (rdR h17 x0 [0] 1).bind fun v18 =>
  (rcv h17 v18 [28]).bind fun b21 =>
  hb (f_J21_clear b21 h17) fun _ h20 =>
  (rdR h20 x0 [0] 0).bind fun v23 =>
  (rdR h20 v23 [1] 0).bind fun v24 =>
  (rdI h20 v24 [3] 3).bind fun v25 =>
  some (.inr v25, h20)
theorem B_X1_restore_18 {M : hp_M} {G : va_G} {h0 : HP} (X : hp_X M G h0 "RenamedWords" "restore" cX1_restore 2 (some .int) [] 8 188) (x0 : Option Nat) (x1 : Int) (s0 : Int) (h : HP) : vv M G h0 2 (hp_End M G h0) xI h 18 [(0, LR x0), (1, LI x1)] [LI s0] (b_X1_restore_18 x0 x1 s0 h) := by
  unfold b_X1_restore_18
  refine vv_xallV (pc := 18) (rest := []) (by rfl) (fun r8 k8 e8 => zz_callS X (m_X1_element (hlM X) _ _ _ _ e8) q3247 q3248 q132 q3249 nh_X1 rfl (by decide) (by decide) (Nat.le_of_ble_eq_true rfl) dX1_restore_18) (fun v7 h8 => ?_) (fun q9 h10 => ?_)
  · refine vv_aload_n (pc := 21) X (kf := 0) (i := 0) rfl 0 rfl dX1_restore_21 ?_
    refine vv_aload_n (pc := 22) X (kf := 0) (i := 0) rfl 0 rfl dX1_restore_22 ?_
    refine vv_getR (pc := 23) X (fun _ z => by cases List.mem_singleton.mp z; exact fl_X1_55_0) dX1_restore_23 (fun v11 => ?_)
    refine vv_iload_n (pc := 26) X (kf := 1) (i := 1) rfl 1 rfl dX1_restore_26 ?_
    refine vv_aaload (pc := 27) X dX1_restore_27 (fun v12 => ?_)
    refine vv_rcv (fun b15 t9 c9 fs9 e16 g9 k9 => ?_)
    cases List.mem_singleton.mp k9
    refine vv_callR (pc := 28) (rest := [LR x0]) (by rw [e16]; rfl) (fun r8 k8 e8 => zz_callV X (m_X2_copy (hlM X) _ _ _ _ e8) g9 rfl rfl q2127 q2128 q2129 q133 q2130 nh_X2 rfl (by decide) (by decide) (Nat.le_of_ble_eq_true rfl) dX1_restore_28) (fun v13 h14 => ?_)
    refine vv_putR (pc := 31) (ty9 := (.object "RenamedWords$Desk")) (fin := false) X (fun _ z => by cases List.mem_singleton.mp z; exact fl_X1_35_0) (fun z => nomatch z) (fun z => nomatch z) (by decide +kernel) rfl dX1_restore_31 (fun h17 => ?_)
    refine vv_aload_n (pc := 34) X (kf := 0) (i := 0) rfl 0 rfl dX1_restore_34 ?_
    refine vv_getR (pc := 35) X (fun _ z => by cases List.mem_singleton.mp z; exact fl_X1_42_0) dX1_restore_35 (fun v18 => ?_)
    refine vv_rcv (fun b21 t9 c9 fs9 e22 g9 k9 => ?_)
    cases List.mem_singleton.mp k9
    refine vv_callV (pc := 38) (rest := []) (by rw [e22]; rfl) (fun r8 k8 e8 => zz_callV X (m_J21_clear (hlM X) _ _ _ _ e8) g9 rfl rfl q1825 q1826 q1827 q162 q1828 nh_J21 rfl (by decide) (by decide) (Nat.le_of_ble_eq_true rfl) dX1_restore_38) (fun v19 h20 => ?_)
    refine vv_aload_n (pc := 41) X (kf := 0) (i := 0) rfl 0 rfl dX1_restore_41 ?_
    refine vv_getR (pc := 42) X (fun _ z => by cases List.mem_singleton.mp z; exact fl_X1_35_0) dX1_restore_42 (fun v23 => ?_)
    refine vv_getR (pc := 45) X (fun _ z => by cases List.mem_singleton.mp z; exact fl_X1_79_1) dX1_restore_45 (fun v24 => ?_)
    refine vv_getI (pc := 48) X (fun _ z => by cases List.mem_singleton.mp z; exact fl_X1_83_3) dX1_restore_48 (fun v25 => ?_)
    exact vv_iretI X rfl rfl dX1_restore_51
  · exact vvx_out X (by decide) rfl
noncomputable def f_X1_restore (a0 : Nat) (a1 : Int) (h : HP) : Option ((Nat ⊕ Int) × HP) :=
  hbx (f_X1_slot a1 h) (fun q3 h4 =>
      some (.inl q3, h4)) fun _ h2 =>
  (rdR h2 (some a0) [0] 3).bind fun v5 =>
  (aldR h2 "RenamedWords$Desk" v5 a1).bind fun v6 =>
  rNU v6
    (b_X1_restore_18 (some a0) a1 0 h2)
    (b_X1_restore_18 (some a0) a1 1 h2)
theorem A_X1_restore {M : hp_M} {G : va_G} {h0 : HP} (X : hp_X M G h0 "RenamedWords" "restore" cX1_restore 2 (some .int) [] 8 188) (a0 : Nat) (a1 : Int) (h : HP) : vv M G h0 2 (hp_End M G h0) xI h 0 [(0, LR (some a0)), (1, LI a1)] [] (f_X1_restore a0 a1 h) := by
  unfold f_X1_restore
  refine vv_iload_n (pc := 0) X (kf := 1) (i := 1) rfl 1 rfl dX1_restore_0 ?_
  refine vv_xallV (pc := 1) (rest := []) (by rfl) (fun r8 k8 e8 => zz_callS X (m_X1_slot (hlM X) _ _ _ _ e8) q3428 q3429 q132 q3430 nh_X1 rfl (by decide) (by decide) (Nat.le_of_ble_eq_true rfl) dX1_restore_1) (fun v1 h2 => ?_) (fun q3 h4 => ?_)
  · refine vv_aload_n (pc := 4) X (kf := 0) (i := 0) rfl 0 rfl dX1_restore_4 ?_
    refine vv_getR (pc := 5) X (fun _ z => by cases List.mem_singleton.mp z; exact fl_X1_55_0) dX1_restore_5 (fun v5 => ?_)
    refine vv_iload_n (pc := 8) X (kf := 1) (i := 1) rfl 1 rfl dX1_restore_8 ?_
    refine vv_aaload (pc := 9) X dX1_restore_9 (fun v6 => ?_)
    refine vv_ifnull (pc := 10) (tgt := 17) X dX1_restore_10 rfl ?_ ?_
    · refine vv_iconst (pc := 17) X dX1_restore_17 ?_
      exact B_X1_restore_18 X _ _ _ _
    · refine vv_iconst (pc := 13) X dX1_restore_13 ?_
      refine vv_goto (pc := 14) (tgt := 18) X dX1_restore_14 rfl ?_
      exact B_X1_restore_18 X _ _ _ _
  · exact vvx_out X (by decide) rfl
theorem m_X1_restore {l : Launch} (hl : l.stackTraces = false) {G : va_G} (a0 : Nat) (a1 : Int) (h : HP) : ∀ r hf, f_X1_restore a0 a1 h = some (r, hf) → Ct l yX1_restore (ws_ yX1_restore cX1_restore 2 (some .int)) 8 188 G h [.ref a0, .int (iI a1)] (xI r) hf :=
  zz_ofW hl (by decide +kernel) (lv := [(0, LR (some a0)), (1, LI a1)]) (by simp [lv_args, lvL, lvV, zz_rfc, zz_rfs, zz_ci, zz_cr, zz_cj, zz_cf, zz_cd]) (by simp [lg_sl, zz_rfc, zz_ci, zz_cr, zz_cj, zz_cf, zz_cd]) (fun _ X => A_X1_restore X a0 a1 h)
-- X0_restore RenamedWordsLaw.restore(LRenamedWords;I[J)I
noncomputable def b_X0_restore_15 (s0 : Option Nat) (h : HP) : Option ((Int) × HP) :=
  some (2, h)
theorem B_X0_restore_15 {M : hp_M} {G : va_G} {h0 : HP} (X : hp_X M G h0 "RenamedWordsLaw" "restore" cX0_restore 4 (some .int) (tableOf [(0, 9, 12, 13), (0, 9, 15, 59)]) 9 217) (s0 : Option Nat) (h : HP) : vv M G h0 4 (hp_End M G h0) jI h 15 [] [LR s0] (b_X0_restore_15 s0 h) := by
  unfold b_X0_restore_15
  refine vv_astore_n (pc := 15) (lv' := [(3, LR s0)]) X (kf := 3) (i := 3) rfl (by decide) rfl dX0_restore_15 ?_
  refine vv_iconst (pc := 16) X dX0_restore_16 ?_
  exact vv_iretI X rfl rfl dX0_restore_17
noncomputable def b_X0_restore_12 (s0 : Option Nat) (h : HP) : Option ((Int) × HP) :=
  some (1, h)
theorem B_X0_restore_12 {M : hp_M} {G : va_G} {h0 : HP} (X : hp_X M G h0 "RenamedWordsLaw" "restore" cX0_restore 4 (some .int) (tableOf [(0, 9, 12, 13), (0, 9, 15, 59)]) 9 217) (s0 : Option Nat) (h : HP) : vv M G h0 4 (hp_End M G h0) jI h 12 [] [LR s0] (b_X0_restore_12 s0 h) := by
  unfold b_X0_restore_12
  refine vv_astore_n (pc := 12) (lv' := [(3, LR s0)]) X (kf := 3) (i := 3) rfl (by decide) rfl dX0_restore_12 ?_
  refine vv_iconst (pc := 13) X dX0_restore_13 ?_
  exact vv_iretI X rfl rfl dX0_restore_14
noncomputable def f_X0_restore (a1 : Option Nat) (a2 : Int) (a3 : Option Nat) (h : HP) : Option ((Int) × HP) :=
  (rcv h a1 [0]).bind fun b3 =>
  hbx (f_X1_restore b3 a2 h) (fun q5 h6 =>
      (clsOf h6 q5).bind fun c7 =>
      if c7 = 36 then
        b_X0_restore_12 (some q5) h6
      else
        if c7 = 34 then
          b_X0_restore_15 (some q5) h6
        else
          none) fun v1 h2 =>
  (astJ h2 a3 0 (iL v1)).bind fun h8 =>
  some (0, h8)
theorem A_X0_restore {M : hp_M} {G : va_G} {h0 : HP} (X : hp_X M G h0 "RenamedWordsLaw" "restore" cX0_restore 4 (some .int) (tableOf [(0, 9, 12, 13), (0, 9, 15, 59)]) 9 217) (a1 : Option Nat) (a2 : Int) (a3 : Option Nat) (h : HP) : vv M G h0 4 (hp_End M G h0) jI h 0 [(0, LR a1), (1, LI a2), (2, LR a3)] [] (f_X0_restore a1 a2 a3 h) := by
  unfold f_X0_restore
  refine vv_aload_n (pc := 0) X (kf := 2) (i := 2) rfl 2 rfl dX0_restore_0 ?_
  refine vv_iconst (pc := 1) X dX0_restore_1 ?_
  refine vv_aload_n (pc := 2) X (kf := 0) (i := 0) rfl 0 rfl dX0_restore_2 ?_
  refine vv_iload_n (pc := 3) X (kf := 1) (i := 1) rfl 1 rfl dX0_restore_3 ?_
  refine vv_rcv (fun b3 t9 c9 fs9 e4 g9 k9 => ?_)
  cases List.mem_singleton.mp k9
  refine vv_xallI (pc := 4) (rest := [LI 0, LR a3]) (by rw [e4]; rfl) (fun r8 k8 e8 => zz_callV X (m_X1_restore (hlM X) _ _ _ _ _ e8) g9 rfl rfl q3434 q3435 q3436 q132 q3437 nh_X1 rfl (by decide) (by decide) (Nat.le_of_ble_eq_true rfl) dX0_restore_4) (fun v1 h2 => ?_) (fun q5 h6 => ?_)
  · refine vv_i2l (pc := 7) X dX0_restore_7 ?_
    refine vv_lastore (pc := 8) X dX0_restore_8 (fun h8 => ?_)
    refine vv_goto (pc := 9) (tgt := 18) X dX0_restore_9 rfl ?_
    refine vv_iconst (pc := 18) X dX0_restore_18 ?_
    exact vv_iretI X rfl rfl dX0_restore_19
  · refine vvx_cls (fun _ c7 _ g9 => ?_)
    refine vvx_if (fun e9 => ?_) (fun _ => ?_)
    · subst e9
      refine vvx_catch X g9 rfl [] ⟨0, 9, 12, 13⟩ [⟨0, 9, 15, 59⟩] rfl (fun z hz => nomatch hz) rfl (by decide) q3013 q275 ?_
      exact vv_sub [] (by rfl) (B_X0_restore_12 X _ _)
    · refine vvx_if (fun e9 => ?_) (fun _ => ?_)
      · subst e9
        refine vvx_catch X g9 rfl [⟨0, 9, 12, 13⟩] ⟨0, 9, 15, 59⟩ [] rfl (fun z hz => by rcases List.mem_cons.mp hz with rfl | hz; exact Or.inr ⟨by decide, _, q3013, List.mem_of_getElem? (i := 2) rfl⟩; exact nomatch hz) rfl (by decide) q3238 q2218 ?_
        exact vv_sub [] (by rfl) (B_X0_restore_15 X _ _)
      · exact vvx_none
theorem m_X0_restore {l : Launch} (hl : l.stackTraces = false) {G : va_G} (a1 : Option Nat) (a2 : Int) (a3 : Option Nat) (h : HP) : ∀ r hf, f_X0_restore a1 a2 a3 h = some (r, hf) → Ct l yX0_restore (wsW_ yX0_restore cX0_restore 4 (some .int) [(0, 9, 12, 13), (0, 9, 15, 59)]) 9 217 G h [va_rf a1, .int (iI a2), va_rf a3] (jI r) hf :=
  zz_ofWH hl (by decide +kernel) (lv := [(0, LR a1), (1, LI a2), (2, LR a3)]) (by simp [lv_args, lvL, lvV, zz_rfc, zz_rfs, zz_ci, zz_cr, zz_cj, zz_cf, zz_cd]) (by simp [lg_sl, zz_rfc, zz_ci, zz_cr, zz_cj, zz_cf, zz_cd]) (fun _ X => A_X0_restore X a1 a2 a3 h)
-- X9_restore RenamedWordsModel.restore(I)I
noncomputable def b_X9_restore_35 (h : HP) : Option ((Int) × HP) :=
  some (0, h)
theorem B_X9_restore_35 {M : hp_M} {G : va_G} {h0 : HP} (X : hp_X M G h0 "RenamedWordsModel" "restore" cX9_restore 2 (some .int) [] 2 59) (h : HP) : vv M G h0 2 (hp_End M G h0) jI h 35 [] [] (b_X9_restore_35 h) := by
  unfold b_X9_restore_35
  refine vv_iconst (pc := 35) X dX9_restore_35 ?_
  exact vv_iretI X rfl rfl dX9_restore_36
noncomputable def b_X9_restore_28 (x0 : Option Nat) (x1 : Int) (s0 : Int) (s1 : Option Nat) (h : HP) : Option ((Int) × HP) :=
  (rcv h s1 [7]).bind fun b10 =>
  hb (f_X9_fails b10 s0 2 h) fun v8 h9 =>
  iEQ v8 0
    ((rdR h9 x0 [7] 4).bind fun v12 =>
    (rdR h9 x0 [7] 0).bind fun v13 =>
    hb (f_X9_lays v12 (576 * x1) v13 0 h9) fun _ h15 =>
    (wrI h15 x0 [7] 6 0).bind fun h16 =>
    (rdR h16 x0 [7] 0).bind fun v17 =>
    (aldI h16 .int v17 1).bind fun v18 =>
    some (v18, h16))
    (b_X9_restore_35 h9)
theorem B_X9_restore_28 {M : hp_M} {G : va_G} {h0 : HP} (X : hp_X M G h0 "RenamedWordsModel" "restore" cX9_restore 2 (some .int) [] 2 59) (x0 : Option Nat) (x1 : Int) (s0 : Int) (s1 : Option Nat) (h : HP) : vv M G h0 2 (hp_End M G h0) jI h 28 [(0, LR x0), (1, LI x1)] [LI s0, LR s1] (b_X9_restore_28 x0 x1 s0 s1 h) := by
  unfold b_X9_restore_28
  refine vv_iconst (pc := 28) X dX9_restore_28 ?_
  refine vv_rcv (fun b10 t9 c9 fs9 e11 g9 k9 => ?_)
  cases List.mem_singleton.mp k9
  refine vv_callI (pc := 29) (rest := []) (by rw [e11]; rfl) (fun r8 k8 e8 => zz_callV X (m_X9_fails (hlM X) _ _ _ _ _ _ e8) g9 rfl rfl q3841 q3843 qs109 q164 q3844 nh_X9 rfl (by decide) (by decide) (Nat.le_of_ble_eq_true rfl) dX9_restore_29) (fun v8 h9 => ?_)
  refine vv_if_eq (pc := 32) (tgt := 37) X dX9_restore_32 rfl ?_ ?_
  · refine vv_aload_n (pc := 37) X (kf := 0) (i := 0) rfl 0 rfl dX9_restore_37 ?_
    refine vv_getR (pc := 38) X (fun _ z => by cases List.mem_singleton.mp z; exact fl_X9_22_7) dX9_restore_38 (fun v12 => ?_)
    refine vv_sipush (pc := 41) X (by decide) dX9_restore_41 ?_
    refine vv_iload_n (pc := 44) X (kf := 1) (i := 1) rfl 1 rfl dX9_restore_44 ?_
    refine vv_imul (pc := 45) X dX9_restore_45 ?_
    refine vv_aload_n (pc := 46) X (kf := 0) (i := 0) rfl 0 rfl dX9_restore_46 ?_
    refine vv_getR (pc := 47) X (fun _ z => by cases List.mem_singleton.mp z; exact fl_X9_9_7) dX9_restore_47 (fun v13 => ?_)
    refine vv_iconst (pc := 50) X dX9_restore_50 ?_
    refine vv_callV (pc := 51) (rest := []) (by rfl) (fun r8 k8 e8 => zz_callS X (m_X9_lays (hlM X) _ _ _ _ _ _ _ e8) q3574 q3575 q164 q3576 nh_X9 rfl (by decide) (by decide) (Nat.le_of_ble_eq_true rfl) dX9_restore_51) (fun v14 h15 => ?_)
    refine vv_aload_n (pc := 54) X (kf := 0) (i := 0) rfl 0 rfl dX9_restore_54 ?_
    refine vv_iconst (pc := 55) X dX9_restore_55 ?_
    refine vv_putI (pc := 56) (fin := false) X (fun _ z => by cases List.mem_singleton.mp z; exact fl_X9_264_7) (fun z => nomatch z) (fun z => nomatch z) dX9_restore_56 (fun h16 => ?_)
    refine vv_aload_n (pc := 59) X (kf := 0) (i := 0) rfl 0 rfl dX9_restore_59 ?_
    refine vv_getR (pc := 60) X (fun _ z => by cases List.mem_singleton.mp z; exact fl_X9_9_7) dX9_restore_60 (fun v17 => ?_)
    refine vv_iconst (pc := 63) X dX9_restore_63 ?_
    refine vv_iaload (pc := 64) X dX9_restore_64 (fun v18 => ?_)
    exact vv_iretI X rfl rfl dX9_restore_65
  · exact vv_sub [] (by rfl) (B_X9_restore_35 X _)
noncomputable def f_X9_restore (a0 : Nat) (a1 : Int) (h : HP) : Option ((Int) × HP) :=
  (wrI h (some a0) [7] 7 0).bind fun h1 =>
  (rcv h1 (some a0) [7]).bind fun b4 =>
  hb (f_X9_noSlot b4 a1 h1) fun v2 h3 =>
  iEQ v2 0
    ((rdR h3 (some a0) [7] 5).bind fun v6 =>
    (aldI h3 .boolean v6 a1).bind fun v7 =>
    iEQ v7 0
      (b_X9_restore_28 (some a0) a1 1 (some a0) h3)
      (b_X9_restore_28 (some a0) a1 0 (some a0) h3))
    (b_X9_restore_35 h3)
theorem A_X9_restore {M : hp_M} {G : va_G} {h0 : HP} (X : hp_X M G h0 "RenamedWordsModel" "restore" cX9_restore 2 (some .int) [] 2 59) (a0 : Nat) (a1 : Int) (h : HP) : vv M G h0 2 (hp_End M G h0) jI h 0 [(0, LR (some a0)), (1, LI a1)] [] (f_X9_restore a0 a1 h) := by
  unfold f_X9_restore
  refine vv_aload_n (pc := 0) X (kf := 0) (i := 0) rfl 0 rfl dX9_restore_0 ?_
  refine vv_iconst (pc := 1) X dX9_restore_1 ?_
  refine vv_putI (pc := 2) (fin := false) X (fun _ z => by cases List.mem_singleton.mp z; exact fl_X9_69_7) (fun z => nomatch z) (fun z => nomatch z) dX9_restore_2 (fun h1 => ?_)
  refine vv_aload_n (pc := 5) X (kf := 0) (i := 0) rfl 0 rfl dX9_restore_5 ?_
  refine vv_iload_n (pc := 6) X (kf := 1) (i := 1) rfl 1 rfl dX9_restore_6 ?_
  refine vv_rcv (fun b4 t9 c9 fs9 e5 g9 k9 => ?_)
  cases List.mem_singleton.mp k9
  refine vv_callI (pc := 7) (rest := []) (by rw [e5]; rfl) (fun r8 k8 e8 => zz_callV X (m_X9_noSlot (hlM X) _ _ _ _ _ e8) g9 rfl rfl q4079 q4081 qs130 q164 q4082 nh_X9 rfl (by decide) (by decide) (Nat.le_of_ble_eq_true rfl) dX9_restore_7) (fun v2 h3 => ?_)
  refine vv_if_ne (pc := 10) (tgt := 35) X dX9_restore_10 rfl ?_ ?_
  · exact vv_sub [] (by rfl) (B_X9_restore_35 X _)
  · refine vv_aload_n (pc := 13) X (kf := 0) (i := 0) rfl 0 rfl dX9_restore_13 ?_
    refine vv_aload_n (pc := 14) X (kf := 0) (i := 0) rfl 0 rfl dX9_restore_14 ?_
    refine vv_getR (pc := 15) X (fun _ z => by cases List.mem_singleton.mp z; exact fl_X9_25_7) dX9_restore_15 (fun v6 => ?_)
    refine vv_iload_n (pc := 18) X (kf := 1) (i := 1) rfl 1 rfl dX9_restore_18 ?_
    refine vv_zaload (pc := 19) X dX9_restore_19 (fun v7 => ?_)
    refine vv_if_ne (pc := 20) (tgt := 27) X dX9_restore_20 rfl ?_ ?_
    · refine vv_iconst (pc := 27) X dX9_restore_27 ?_
      exact B_X9_restore_28 X _ _ _ _ _
    · refine vv_iconst (pc := 23) X dX9_restore_23 ?_
      refine vv_goto (pc := 24) (tgt := 28) X dX9_restore_24 rfl ?_
      exact B_X9_restore_28 X _ _ _ _ _
theorem m_X9_restore {l : Launch} (hl : l.stackTraces = false) {G : va_G} (a0 : Nat) (a1 : Int) (h : HP) : ∀ r hf, f_X9_restore a0 a1 h = some (r, hf) → Ct l yX9_restore (ws_ yX9_restore cX9_restore 2 (some .int)) 2 59 G h [.ref a0, .int (iI a1)] (jI r) hf :=
  zz_ofW hl (by decide +kernel) (lv := [(0, LR (some a0)), (1, LI a1)]) (by simp [lv_args, lvL, lvV, zz_rfc, zz_rfs, zz_ci, zz_cr, zz_cj, zz_cf, zz_cd]) (by simp [lg_sl, zz_rfc, zz_ci, zz_cr, zz_cj, zz_cf, zz_cd]) (fun _ X => A_X9_restore X a0 a1 h)
