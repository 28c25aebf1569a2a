/-! STAGE 1c: functions and contracts (printed by gen/mkfuncs.py). -/
set_option maxRecDepth 100000
set_option linter.unusedVariables false
-- X9_markAt RenamedWordsModel.markAt(I)I
noncomputable def b_X9_markAt_52 (s0 : Int) (h : HP) : Option ((Int) × HP) :=
  some (s0, h)
theorem B_X9_markAt_52 {M : hp_M} {G : va_G} {h0 : HP} (X : hp_X M G h0 "RenamedWordsModel" "markAt" cX9_markAt 2 (some .int) [] 1 30) (s0 : Int) (h : HP) : vv M G h0 2 (hp_End M G h0) jI h 52 [] [LI s0] (b_X9_markAt_52 s0 h) := by
  unfold b_X9_markAt_52
  exact vv_iretI X rfl rfl dX9_markAt_52
noncomputable def b_X9_markAt_27 (x0 : Option Nat) (x1 : Int) (s0 : Int) (s1 : Option Nat) (h : HP) : Option ((Int) × HP) :=
  (rcv h s1 [7]).bind fun b8 =>
  hb (f_X9_fails b8 s0 1 h) fun v6 h7 =>
  iEQ v6 0
    ((rcv h7 x0 [7]).bind fun b12 =>
    hb (f_X9_markPlace b12 x1 h7) fun v10 h11 =>
    (rcv h11 x0 [7]).bind fun b16 =>
    hb (f_X9_markPattern b16 x1 h11) fun v14 h15 =>
    b_X9_markAt_52 ((10 * v10) + v14) h15)
    (b_X9_markAt_52 0 h7)
theorem B_X9_markAt_27 {M : hp_M} {G : va_G} {h0 : HP} (X : hp_X M G h0 "RenamedWordsModel" "markAt" cX9_markAt 2 (some .int) [] 1 30) (x0 : Option Nat) (x1 : Int) (s0 : Int) (s1 : Option Nat) (h : HP) : vv M G h0 2 (hp_End M G h0) jI h 27 [(0, LR x0), (1, LI x1)] [LI s0, LR s1] (b_X9_markAt_27 x0 x1 s0 s1 h) := by
  unfold b_X9_markAt_27
  refine vv_iconst (pc := 27) X dX9_markAt_27 ?_
  refine vv_rcv (fun b8 t9 c9 fs9 e9 g9 k9 => ?_)
  cases List.mem_singleton.mp k9
  refine vv_callI (pc := 28) (rest := []) (by rw [e9]; rfl) (fun r8 k8 e8 => zz_callV X (m_X9_fails (hlM X) _ _ _ _ _ _ e8) g9 rfl rfl q3841 q3843 qs109 q164 q3844 nh_X9 rfl (by decide) (by decide) (Nat.le_of_ble_eq_true rfl) dX9_markAt_28) (fun v6 h7 => ?_)
  refine vv_if_eq (pc := 31) (tgt := 38) X dX9_markAt_31 rfl ?_ ?_
  · refine vv_bipush (pc := 38) X (by decide) dX9_markAt_38 ?_
    refine vv_aload_n (pc := 40) X (kf := 0) (i := 0) rfl 0 rfl dX9_markAt_40 ?_
    refine vv_iload_n (pc := 41) X (kf := 1) (i := 1) rfl 1 rfl dX9_markAt_41 ?_
    refine vv_rcv (fun b12 t9 c9 fs9 e13 g9 k9 => ?_)
    cases List.mem_singleton.mp k9
    refine vv_callI (pc := 42) (rest := [LI 10]) (by rw [e13]; rfl) (fun r8 k8 e8 => zz_callV X (m_X9_markPlace (hlM X) _ _ _ _ _ e8) g9 rfl rfl q3747 q3749 qs88 q164 q3750 nh_X9 rfl (by decide) (by decide) (Nat.le_of_ble_eq_true rfl) dX9_markAt_42) (fun v10 h11 => ?_)
    refine vv_imul (pc := 45) X dX9_markAt_45 ?_
    refine vv_aload_n (pc := 46) X (kf := 0) (i := 0) rfl 0 rfl dX9_markAt_46 ?_
    refine vv_iload_n (pc := 47) X (kf := 1) (i := 1) rfl 1 rfl dX9_markAt_47 ?_
    refine vv_rcv (fun b16 t9 c9 fs9 e17 g9 k9 => ?_)
    cases List.mem_singleton.mp k9
    refine vv_callI (pc := 48) (rest := [LI (10 * v10)]) (by rw [e17]; rfl) (fun r8 k8 e8 => zz_callV X (m_X9_markPattern (hlM X) _ _ _ _ _ e8) g9 rfl rfl q3759 q3761 qs91 q164 q3762 nh_X9 rfl (by decide) (by decide) (Nat.le_of_ble_eq_true rfl) dX9_markAt_48) (fun v14 h15 => ?_)
    refine vv_iadd (pc := 51) X dX9_markAt_51 ?_
    exact vv_sub [] (by rfl) (B_X9_markAt_52 X _ _)
  · refine vv_iconst (pc := 34) X dX9_markAt_34 ?_
    refine vv_goto (pc := 35) (tgt := 52) X dX9_markAt_35 rfl ?_
    exact vv_sub [] (by rfl) (B_X9_markAt_52 X _ _)
noncomputable def f_X9_markAt (a0 : Nat) (a1 : Int) (h : HP) : Option ((Int) × HP) :=
  (wrI h (some a0) [7] 7 0).bind fun h1 =>
  (rdR h1 (some a0) [7] 0).bind fun v2 =>
  (aldI h1 .int v2 3).bind fun v3 =>
  hb (f_X9_in a1 0 (v3 - 1) h1) fun v4 h5 =>
  iEQ v4 0
    (b_X9_markAt_27 (some a0) a1 1 (some a0) h5)
    (b_X9_markAt_27 (some a0) a1 0 (some a0) h5)
theorem A_X9_markAt {M : hp_M} {G : va_G} {h0 : HP} (X : hp_X M G h0 "RenamedWordsModel" "markAt" cX9_markAt 2 (some .int) [] 1 30) (a0 : Nat) (a1 : Int) (h : HP) : vv M G h0 2 (hp_End M G h0) jI h 0 [(0, LR (some a0)), (1, LI a1)] [] (f_X9_markAt a0 a1 h) := by
  unfold f_X9_markAt
  refine vv_aload_n (pc := 0) X (kf := 0) (i := 0) rfl 0 rfl dX9_markAt_0 ?_
  refine vv_iconst (pc := 1) X dX9_markAt_1 ?_
  refine vv_putI (pc := 2) (fin := false) X (fun _ z => by cases List.mem_singleton.mp z; exact fl_X9_69_7) (fun z => nomatch z) (fun z => nomatch z) dX9_markAt_2 (fun h1 => ?_)
  refine vv_aload_n (pc := 5) X (kf := 0) (i := 0) rfl 0 rfl dX9_markAt_5 ?_
  refine vv_iload_n (pc := 6) X (kf := 1) (i := 1) rfl 1 rfl dX9_markAt_6 ?_
  refine vv_iconst (pc := 7) X dX9_markAt_7 ?_
  refine vv_aload_n (pc := 8) X (kf := 0) (i := 0) rfl 0 rfl dX9_markAt_8 ?_
  refine vv_getR (pc := 9) X (fun _ z => by cases List.mem_singleton.mp z; exact fl_X9_9_7) dX9_markAt_9 (fun v2 => ?_)
  refine vv_iconst (pc := 12) X dX9_markAt_12 ?_
  refine vv_iaload (pc := 13) X dX9_markAt_13 (fun v3 => ?_)
  refine vv_iconst (pc := 14) X dX9_markAt_14 ?_
  refine vv_isub (pc := 15) X dX9_markAt_15 ?_
  refine vv_callI (pc := 16) (rest := [LR (some a0)]) (by rfl) (fun r8 k8 e8 => zz_callS X (m_X9_in (hlM X) _ _ _ _ _ _ e8) q3593 q3594 q164 q3595 nh_X9 rfl (by decide) (by decide) (Nat.le_of_ble_eq_true rfl) dX9_markAt_16) (fun v4 h5 => ?_)
  refine vv_if_ne (pc := 19) (tgt := 26) X dX9_markAt_19 rfl ?_ ?_
  · refine vv_iconst (pc := 26) X dX9_markAt_26 ?_
    exact B_X9_markAt_27 X _ _ _ _ _
  · refine vv_iconst (pc := 22) X dX9_markAt_22 ?_
    refine vv_goto (pc := 23) (tgt := 27) X dX9_markAt_23 rfl ?_
    exact B_X9_markAt_27 X _ _ _ _ _
theorem m_X9_markAt {l : Launch} (hl : l.stackTraces = false) {G : va_G} (a0 : Nat) (a1 : Int) (h : HP) : ∀ r hf, f_X9_markAt a0 a1 h = some (r, hf) → Ct l yX9_markAt (ws_ yX9_markAt cX9_markAt 2 (some .int)) 1 30 G h [.ref a0, .int (iI a1)] (jI r) hf :=
  zz_ofW hl (by decide +kernel) (lv := [(0, LR (some a0)), (1, LI a1)]) (by simp [lv_args, lvL, lvV, zz_rfc, zz_rfs, zz_ci, zz_cr, zz_cj, zz_cf, zz_cd]) (by simp [lg_sl, zz_rfc, zz_ci, zz_cr, zz_cj, zz_cf, zz_cd]) (fun _ X => A_X9_markAt X a0 a1 h)
-- X1_account RenamedWords.account(I)I
noncomputable def f_X1_account (a0 : Nat) (a1 : Int) (h : HP) : Option ((Nat ⊕ Int) × HP) :=
  hb (f_X1_in (iL a1) 0 (7 : Int64) h) fun v1 h2 =>
  hbx (f_X1_argument v1 h2) (fun q5 h6 =>
      some (.inl q5, h6)) fun _ h4 =>
  (rdR h4 (some a0) [0] 0).bind fun v7 =>
  (rdR h4 v7 [1] 4).bind fun v8 =>
  (aldI h4 .int v8 a1).bind fun v9 =>
  some (.inr v9, h4)
theorem A_X1_account {M : hp_M} {G : va_G} {h0 : HP} (X : hp_X M G h0 "RenamedWords" "account" cX1_account 2 (some .int) [] 7 125) (a0 : Nat) (a1 : Int) (h : HP) : vv M G h0 2 (hp_End M G h0) xI h 0 [(0, LR (some a0)), (1, LI a1)] [] (f_X1_account a0 a1 h) := by
  unfold f_X1_account
  refine vv_iload_n (pc := 0) X (kf := 1) (i := 1) rfl 1 rfl dX1_account_0 ?_
  refine vv_i2l (pc := 1) X dX1_account_1 ?_
  refine vv_lconst (pc := 2) (v := 0) X (by decide) dX1_account_2 ?_
  refine vv_ldc2 (pc := 3) X q3192 dX1_account_3 ?_
  refine vv_callI (pc := 6) (rest := []) (by rfl) (fun r8 k8 e8 => zz_callS X (m_X1_in (hlM X) _ _ _ _ _ _ e8) q2984 q873 q132 q874 nh_X1 rfl (by decide) (by decide) (Nat.le_of_ble_eq_true rfl) dX1_account_6) (fun v1 h2 => ?_)
  refine vv_xallV (pc := 9) (rest := []) (by rfl) (fun r8 k8 e8 => zz_callS X (m_X1_argument (hlM X) _ _ _ _ e8) q3090 q3091 q132 q3092 nh_X1 rfl (by decide) (by decide) (Nat.le_of_ble_eq_true rfl) dX1_account_9) (fun v3 h4 => ?_) (fun q5 h6 => ?_)
  · refine vv_aload_n (pc := 12) X (kf := 0) (i := 0) rfl 0 rfl dX1_account_12 ?_
    refine vv_getR (pc := 13) X (fun _ z => by cases List.mem_singleton.mp z; exact fl_X1_35_0) dX1_account_13 (fun v7 => ?_)
    refine vv_getR (pc := 16) X (fun _ z => by cases List.mem_singleton.mp z; exact fl_X1_311_1) dX1_account_16 (fun v8 => ?_)
    refine vv_iload_n (pc := 19) X (kf := 1) (i := 1) rfl 1 rfl dX1_account_19 ?_
    refine vv_iaload (pc := 20) X dX1_account_20 (fun v9 => ?_)
    exact vv_iretI X rfl rfl dX1_account_21
  · exact vvx_out X (by decide) rfl
theorem m_X1_account {l : Launch} (hl : l.stackTraces = false) {G : va_G} (a0 : Nat) (a1 : Int) (h : HP) : ∀ r hf, f_X1_account a0 a1 h = some (r, hf) → Ct l yX1_account (ws_ yX1_account cX1_account 2 (some .int)) 7 125 G h [.ref a0, .int (iI a1)] (xI r) hf :=
  zz_ofW hl (by decide +kernel) (lv := [(0, LR (some a0)), (1, LI a1)]) (by simp [lv_args, lvL, lvV, zz_rfc, zz_rfs, zz_ci, zz_cr, zz_cj, zz_cf, zz_cd]) (by simp [lg_sl, zz_rfc, zz_ci, zz_cr, zz_cj, zz_cf, zz_cd]) (fun _ X => A_X1_account X a0 a1 h)
-- X0_account RenamedWordsLaw.account(LRenamedWords;I[J)I
noncomputable def b_X0_account_12 (s0 : Option Nat) (h : HP) : Option ((Int) × HP) :=
  some (1, h)
theorem B_X0_account_12 {M : hp_M} {G : va_G} {h0 : HP} (X : hp_X M G h0 "RenamedWordsLaw" "account" cX0_account 4 (some .int) (tableOf [(0, 9, 12, 13)]) 8 154) (s0 : Option Nat) (h : HP) : vv M G h0 4 (hp_End M G h0) jI h 12 [] [LR s0] (b_X0_account_12 s0 h) := by
  unfold b_X0_account_12
  refine vv_astore_n (pc := 12) (lv' := [(3, LR s0)]) X (kf := 3) (i := 3) rfl (by decide) rfl dX0_account_12 ?_
  refine vv_iconst (pc := 13) X dX0_account_13 ?_
  exact vv_iretI X rfl rfl dX0_account_14
noncomputable def f_X0_account (a1 : Option Nat) (a2 : Int) (a3 : Option Nat) (h : HP) : Option ((Int) × HP) :=
  (rcv h a1 [0]).bind fun b3 =>
  hbx (f_X1_account b3 a2 h) (fun q5 h6 =>
      (clsOf h6 q5).bind fun c7 =>
      if c7 = 36 then
        b_X0_account_12 (some q5) h6
      else
        none) fun v1 h2 =>
  (astJ h2 a3 0 (iL v1)).bind fun h8 =>
  some (0, h8)
theorem A_X0_account {M : hp_M} {G : va_G} {h0 : HP} (X : hp_X M G h0 "RenamedWordsLaw" "account" cX0_account 4 (some .int) (tableOf [(0, 9, 12, 13)]) 8 154) (a1 : Option Nat) (a2 : Int) (a3 : Option Nat) (h : HP) : vv M G h0 4 (hp_End M G h0) jI h 0 [(0, LR a1), (1, LI a2), (2, LR a3)] [] (f_X0_account a1 a2 a3 h) := by
  unfold f_X0_account
  refine vv_aload_n (pc := 0) X (kf := 2) (i := 2) rfl 2 rfl dX0_account_0 ?_
  refine vv_iconst (pc := 1) X dX0_account_1 ?_
  refine vv_aload_n (pc := 2) X (kf := 0) (i := 0) rfl 0 rfl dX0_account_2 ?_
  refine vv_iload_n (pc := 3) X (kf := 1) (i := 1) rfl 1 rfl dX0_account_3 ?_
  refine vv_rcv (fun b3 t9 c9 fs9 e4 g9 k9 => ?_)
  cases List.mem_singleton.mp k9
  refine vv_xallI (pc := 4) (rest := [LI 0, LR a3]) (by rw [e4]; rfl) (fun r8 k8 e8 => zz_callV X (m_X1_account (hlM X) _ _ _ _ _ e8) g9 rfl rfl q3188 q3189 q3190 q132 q3191 nh_X1 rfl (by decide) (by decide) (Nat.le_of_ble_eq_true rfl) dX0_account_4) (fun v1 h2 => ?_) (fun q5 h6 => ?_)
  · refine vv_i2l (pc := 7) X dX0_account_7 ?_
    refine vv_lastore (pc := 8) X dX0_account_8 (fun h8 => ?_)
    refine vv_goto (pc := 9) (tgt := 15) X dX0_account_9 rfl ?_
    refine vv_iconst (pc := 15) X dX0_account_15 ?_
    exact vv_iretI X rfl rfl dX0_account_16
  · refine vvx_cls (fun _ c7 _ g9 => ?_)
    refine vvx_if (fun e9 => ?_) (fun _ => ?_)
    · subst e9
      refine vvx_catch X g9 rfl [] ⟨0, 9, 12, 13⟩ [] rfl (fun z hz => nomatch hz) rfl (by decide) q3013 q275 ?_
      exact vv_sub [] (by rfl) (B_X0_account_12 X _ _)
    · exact vvx_none
theorem m_X0_account {l : Launch} (hl : l.stackTraces = false) {G : va_G} (a1 : Option Nat) (a2 : Int) (a3 : Option Nat) (h : HP) : ∀ r hf, f_X0_account a1 a2 a3 h = some (r, hf) → Ct l yX0_account (wsW_ yX0_account cX0_account 4 (some .int) [(0, 9, 12, 13)]) 8 154 G h [va_rf a1, .int (iI a2), va_rf a3] (jI r) hf :=
  zz_ofWH hl (by decide +kernel) (lv := [(0, LR a1), (1, LI a2), (2, LR a3)]) (by simp [lv_args, lvL, lvV, zz_rfc, zz_rfs, zz_ci, zz_cr, zz_cj, zz_cf, zz_cd]) (by simp [lg_sl, zz_rfc, zz_ci, zz_cr, zz_cj, zz_cf, zz_cd]) (fun _ X => A_X0_account X a1 a2 a3 h)
-- X9_account RenamedWordsModel.account(I)I
noncomputable def b_X9_account_40 (s0 : Int) (h : HP) : Option ((Int) × HP) :=
  some (s0, h)
theorem B_X9_account_40 {M : hp_M} {G : va_G} {h0 : HP} (X : hp_X M G h0 "RenamedWordsModel" "account" cX9_account 2 (some .int) [] 1 30) (s0 : Int) (h : HP) : vv M G h0 2 (hp_End M G h0) jI h 40 [] [LI s0] (b_X9_account_40 s0 h) := by
  unfold b_X9_account_40
  exact vv_iretI X rfl rfl dX9_account_40
noncomputable def b_X9_account_21 (x0 : Option Nat) (x1 : Int) (s0 : Int) (s1 : Option Nat) (h : HP) : Option ((Int) × HP) :=
  (rcv h s1 [7]).bind fun b6 =>
  hb (f_X9_fails b6 s0 1 h) fun v4 h5 =>
  iEQ v4 0
    ((rdR h5 x0 [7] 0).bind fun v8 =>
    (aldI h5 .int v8 (4 + x1)).bind fun v9 =>
    b_X9_account_40 v9 h5)
    (b_X9_account_40 0 h5)
theorem B_X9_account_21 {M : hp_M} {G : va_G} {h0 : HP} (X : hp_X M G h0 "RenamedWordsModel" "account" cX9_account 2 (some .int) [] 1 30) (x0 : Option Nat) (x1 : Int) (s0 : Int) (s1 : Option Nat) (h : HP) : vv M G h0 2 (hp_End M G h0) jI h 21 [(0, LR x0), (1, LI x1)] [LI s0, LR s1] (b_X9_account_21 x0 x1 s0 s1 h) := by
  unfold b_X9_account_21
  refine vv_iconst (pc := 21) X dX9_account_21 ?_
  refine vv_rcv (fun b6 t9 c9 fs9 e7 g9 k9 => ?_)
  cases List.mem_singleton.mp k9
  refine vv_callI (pc := 22) (rest := []) (by rw [e7]; rfl) (fun r8 k8 e8 => zz_callV X (m_X9_fails (hlM X) _ _ _ _ _ _ e8) g9 rfl rfl q3841 q3843 qs109 q164 q3844 nh_X9 rfl (by decide) (by decide) (Nat.le_of_ble_eq_true rfl) dX9_account_22) (fun v4 h5 => ?_)
  refine vv_if_eq (pc := 25) (tgt := 32) X dX9_account_25 rfl ?_ ?_
  · refine vv_aload_n (pc := 32) X (kf := 0) (i := 0) rfl 0 rfl dX9_account_32 ?_
    refine vv_getR (pc := 33) X (fun _ z => by cases List.mem_singleton.mp z; exact fl_X9_9_7) dX9_account_33 (fun v8 => ?_)
    refine vv_iconst (pc := 36) X dX9_account_36 ?_
    refine vv_iload_n (pc := 37) X (kf := 1) (i := 1) rfl 1 rfl dX9_account_37 ?_
    refine vv_iadd (pc := 38) X dX9_account_38 ?_
    refine vv_iaload (pc := 39) X dX9_account_39 (fun v9 => ?_)
    exact vv_sub [] (by rfl) (B_X9_account_40 X _ _)
  · refine vv_iconst (pc := 28) X dX9_account_28 ?_
    refine vv_goto (pc := 29) (tgt := 40) X dX9_account_29 rfl ?_
    exact vv_sub [] (by rfl) (B_X9_account_40 X _ _)
noncomputable def f_X9_account (a0 : Nat) (a1 : Int) (h : HP) : Option ((Int) × HP) :=
  (wrI h (some a0) [7] 7 0).bind fun h1 =>
  hb (f_X9_in a1 0 7 h1) fun v2 h3 =>
  iEQ v2 0
    (b_X9_account_21 (some a0) a1 1 (some a0) h3)
    (b_X9_account_21 (some a0) a1 0 (some a0) h3)
theorem A_X9_account {M : hp_M} {G : va_G} {h0 : HP} (X : hp_X M G h0 "RenamedWordsModel" "account" cX9_account 2 (some .int) [] 1 30) (a0 : Nat) (a1 : Int) (h : HP) : vv M G h0 2 (hp_End M G h0) jI h 0 [(0, LR (some a0)), (1, LI a1)] [] (f_X9_account a0 a1 h) := by
  unfold f_X9_account
  refine vv_aload_n (pc := 0) X (kf := 0) (i := 0) rfl 0 rfl dX9_account_0 ?_
  refine vv_iconst (pc := 1) X dX9_account_1 ?_
  refine vv_putI (pc := 2) (fin := false) X (fun _ z => by cases List.mem_singleton.mp z; exact fl_X9_69_7) (fun z => nomatch z) (fun z => nomatch z) dX9_account_2 (fun h1 => ?_)
  refine vv_aload_n (pc := 5) X (kf := 0) (i := 0) rfl 0 rfl dX9_account_5 ?_
  refine vv_iload_n (pc := 6) X (kf := 1) (i := 1) rfl 1 rfl dX9_account_6 ?_
  refine vv_iconst (pc := 7) X dX9_account_7 ?_
  refine vv_bipush (pc := 8) X (by decide) dX9_account_8 ?_
  refine vv_callI (pc := 10) (rest := [LR (some a0)]) (by rfl) (fun r8 k8 e8 => zz_callS X (m_X9_in (hlM X) _ _ _ _ _ _ e8) q3593 q3594 q164 q3595 nh_X9 rfl (by decide) (by decide) (Nat.le_of_ble_eq_true rfl) dX9_account_10) (fun v2 h3 => ?_)
  refine vv_if_ne (pc := 13) (tgt := 20) X dX9_account_13 rfl ?_ ?_
  · refine vv_iconst (pc := 20) X dX9_account_20 ?_
    exact B_X9_account_21 X _ _ _ _ _
  · refine vv_iconst (pc := 16) X dX9_account_16 ?_
    refine vv_goto (pc := 17) (tgt := 21) X dX9_account_17 rfl ?_
    exact B_X9_account_21 X _ _ _ _ _
theorem m_X9_account {l : Launch} (hl : l.stackTraces = false) {G : va_G} (a0 : Nat) (a1 : Int) (h : HP) : ∀ r hf, f_X9_account a0 a1 h = some (r, hf) → Ct l yX9_account (ws_ yX9_account cX9_account 2 (some .int)) 1 30 G h [.ref a0, .int (iI a1)] (jI r) hf :=
  zz_ofW hl (by decide +kernel) (lv := [(0, LR (some a0)), (1, LI a1)]) (by simp [lv_args, lvL, lvV, zz_rfc, zz_rfs, zz_ci, zz_cr, zz_cj, zz_cf, zz_cd]) (by simp [lg_sl, zz_rfc, zz_ci, zz_cr, zz_cj, zz_cf, zz_cd]) (fun _ X => A_X9_account X a0 a1 h)
-- X2_wrongMarks RenamedWords$Desk.wrongMarks()I
noncomputable def b_X2_wrongMarks_50 (r10 : Option Nat → Int → Option Nat → HP → Option ((Int) × HP)) (x0 : Option Nat) (x2 : Option Nat) (s0 : Int) (s1 : Int) (h : HP) : Option ((Int) × HP) :=
  hb (f_X1_one s0 h) fun v20 h21 =>
  r10 x0 (s1 + v20) x2 h21
theorem B_X2_wrongMarks_50 {M : hp_M} {G : va_G} {h0 : HP} (X : hp_X M G h0 "RenamedWords$Desk" "wrongMarks" cX2_wrongMarks 4 (some .int) [] 8 244) (r10 : Option Nat → Int → Option Nat → HP → Option ((Int) × HP)) (hr10 : ∀ (y0 : Option Nat) (y1 : Int) (y2 : Option Nat) (h : HP), vv M G h0 4 (hp_End M G h0) jI h 10 [(0, LR y0), (1, LI y1), (2, LR y2)] [] (r10 y0 y1 y2 h)) (x0 : Option Nat) (x2 : Option Nat) (s0 : Int) (s1 : Int) (h : HP) : vv M G h0 4 (hp_End M G h0) jI h 50 [(0, LR x0), (2, LR x2)] [LI s0, LI s1] (b_X2_wrongMarks_50 r10 x0 x2 s0 s1 h) := by
  unfold b_X2_wrongMarks_50
  refine vv_callI (pc := 50) (rest := [LI s1]) (by rfl) (fun r8 k8 e8 => zz_callSN X (m_X1_one (hlM X) _ _ _ _ e8) q2812 q836 q132 q837 nh_X1 rfl (by decide) (by decide) (Nat.le_of_ble_eq_true rfl) dX2_wrongMarks_50) (fun v20 h21 => ?_)
  refine vv_iadd (pc := 53) X dX2_wrongMarks_53 ?_
  refine vv_istore_n (pc := 54) (lv' := [(1, LI (s1 + v20)), (0, LR x0), (2, LR x2)]) X (kf := 1) (i := 1) rfl (by decide) rfl dX2_wrongMarks_54 ?_
  refine vv_goto (pc := 55) (tgt := 10) X dX2_wrongMarks_55 rfl ?_
  exact vv_sub [1, 0, 2] (by rfl) (hr10 _ _ _ _)
noncomputable def c_X2_wrongMarks_10 (r10 : Option Nat → Int → Option Nat → HP → Option ((Int) × HP)) (x0 : Option Nat) (x1 : Int) (x2 : Option Nat) (h : HP) : Option ((Int) × HP) :=
  (rcv h x2 [21]).bind fun b8 =>
  hb (f_X26_hasNext b8 h) fun v6 h7 =>
  iEQ v6 0
    (some (x1, h7))
    ((rcv h7 x2 [21]).bind fun b12 =>
    hb (f_X26_next b12 h7) fun v10 h11 =>
    (chk h11 v10 [22]).bind fun _ =>
    (rdI h11 v10 [22] 0).bind fun v14 =>
    (rdI h11 v10 [22] 1).bind fun v15 =>
    (rcv h11 x0 [1]).bind fun b18 =>
    hb (f_X2_isAt b18 v14 v15 h11) fun v16 h17 =>
    iEQ v16 0
      (b_X2_wrongMarks_50 r10 x0 x2 1 x1 h17)
      (b_X2_wrongMarks_50 r10 x0 x2 0 x1 h17))
noncomputable def b_X2_wrongMarks_10 : Option Nat → Int → Option Nat → HP → Option ((Int) × HP) := fx (fun _ _ _ _ => none) (c_X2_wrongMarks_10) FU
theorem C_X2_wrongMarks_10 {M : hp_M} {G : va_G} {h0 : HP} (X : hp_X M G h0 "RenamedWords$Desk" "wrongMarks" cX2_wrongMarks 4 (some .int) [] 8 244) (r10 : Option Nat → Int → Option Nat → HP → Option ((Int) × HP)) (hr10 : ∀ (y0 : Option Nat) (y1 : Int) (y2 : Option Nat) (h : HP), vv M G h0 4 (hp_End M G h0) jI h 10 [(0, LR y0), (1, LI y1), (2, LR y2)] [] (r10 y0 y1 y2 h)) (x0 : Option Nat) (x1 : Int) (x2 : Option Nat) (h : HP) : vv M G h0 4 (hp_End M G h0) jI h 10 [(0, LR x0), (1, LI x1), (2, LR x2)] [] (c_X2_wrongMarks_10 r10 x0 x1 x2 h) := by
  unfold c_X2_wrongMarks_10
  refine vv_aload_n (pc := 10) X (kf := 2) (i := 2) rfl 2 rfl dX2_wrongMarks_10 ?_
  refine vv_rcv (fun b8 t9 c9 fs9 e9 g9 k9 => ?_)
  cases List.mem_singleton.mp k9
  refine vv_callI (pc := 11) (rest := []) (by rw [e9]; rfl) (fun r8 k8 e8 => zz_callF X (m_X26_hasNext (hlM X) _ _ _ _ e8) g9 rfl q2171 (List.mem_of_getElem? (i := 5) rfl) q2177 q2175 q191 q2179 nh_xjava_util_Iterator rfl (by decide) (by decide) (Nat.le_of_ble_eq_true rfl) dX2_wrongMarks_11) (fun v6 h7 => ?_)
  refine vv_if_eq (pc := 16) (tgt := 58) X dX2_wrongMarks_16 rfl ?_ ?_
  · refine vv_iload_n (pc := 58) X (kf := 1) (i := 1) rfl 1 rfl dX2_wrongMarks_58 ?_
    exact vv_iretI X rfl rfl dX2_wrongMarks_59
  · refine vv_aload_n (pc := 19) X (kf := 2) (i := 2) rfl 2 rfl dX2_wrongMarks_19 ?_
    refine vv_rcv (fun b12 t9 c9 fs9 e13 g9 k9 => ?_)
    cases List.mem_singleton.mp k9
    refine vv_callR (pc := 20) (rest := []) (by rw [e13]; rfl) (fun r8 k8 e8 => zz_callF X (m_X26_next (hlM X) _ _ _ _ e8) g9 rfl q2204 (List.mem_of_getElem? (i := 6) rfl) q2209 q2207 q191 q2211 nh_xjava_util_Iterator rfl (by decide) (by decide) (Nat.le_of_ble_eq_true rfl) dX2_wrongMarks_20) (fun v10 h11 => ?_)
    refine vv_checkcast (pc := 25) X ⟨q2378, (fun _ z => by cases List.mem_singleton.mp z; exact ⟨_, rfl, Or.inl rfl⟩)⟩ dX2_wrongMarks_25 ?_
    refine vv_astore_n (pc := 28) (lv' := [(3, LR v10), (0, LR x0), (1, LI x1), (2, LR x2)]) X (kf := 3) (i := 3) rfl (by decide) rfl dX2_wrongMarks_28 ?_
    refine vv_iload_n (pc := 29) X (kf := 1) (i := 1) rfl 2 rfl dX2_wrongMarks_29 ?_
    refine vv_aload_n (pc := 30) X (kf := 0) (i := 0) rfl 1 rfl dX2_wrongMarks_30 ?_
    refine vv_aload_n (pc := 31) X (kf := 3) (i := 3) rfl 0 rfl dX2_wrongMarks_31 ?_
    refine vv_getI (pc := 32) X (fun _ z => by cases List.mem_singleton.mp z; exact fl_X2_94_22) dX2_wrongMarks_32 (fun v14 => ?_)
    refine vv_aload_n (pc := 35) X (kf := 3) (i := 3) rfl 0 rfl dX2_wrongMarks_35 ?_
    refine vv_getI (pc := 36) X (fun _ z => by cases List.mem_singleton.mp z; exact fl_X2_98_22) dX2_wrongMarks_36 (fun v15 => ?_)
    refine vv_rcv (fun b18 t9 c9 fs9 e19 g9 k9 => ?_)
    cases List.mem_singleton.mp k9
    refine vv_callI (pc := 39) (rest := [LI x1]) (by rw [e19]; rfl) (fun r8 k8 e8 => zz_callV X (m_X2_isAt (hlM X) _ _ _ _ _ _ e8) g9 rfl rfl q2596 q2597 q2598 q133 q2599 nh_X2 rfl (by decide) (by decide) (Nat.le_of_ble_eq_true rfl) dX2_wrongMarks_39) (fun v16 h17 => ?_)
    refine vv_if_ne (pc := 42) (tgt := 49) X dX2_wrongMarks_42 rfl ?_ ?_
    · refine vv_iconst (pc := 49) X dX2_wrongMarks_49 ?_
      exact vv_sub [1, 3] (by rfl) (B_X2_wrongMarks_50 X r10 hr10 _ _ _ _ _)
    · refine vv_iconst (pc := 45) X dX2_wrongMarks_45 ?_
      refine vv_goto (pc := 46) (tgt := 50) X dX2_wrongMarks_46 rfl ?_
      exact vv_sub [1, 3] (by rfl) (B_X2_wrongMarks_50 X r10 hr10 _ _ _ _ _)
theorem B_X2_wrongMarks_10 {M : hp_M} {G : va_G} {h0 : HP} (X : hp_X M G h0 "RenamedWords$Desk" "wrongMarks" cX2_wrongMarks 4 (some .int) [] 8 244) : ∀ (x0 : Option Nat) (x1 : Int) (x2 : Option Nat) (h : HP), vv M G h0 4 (hp_End M G h0) jI h 10 [(0, LR x0), (1, LI x1), (2, LR x2)] [] (b_X2_wrongMarks_10 x0 x1 x2 h) := by
  unfold b_X2_wrongMarks_10
  generalize FU = n
  induction n with
  | zero => intro x0 x1 x2 h; exact vv_none
  | succ n ih => exact C_X2_wrongMarks_10 X _ ih
noncomputable def f_X2_wrongMarks (a0 : Nat) (h : HP) : Option ((Int) × HP) :=
  (rdR h (some a0) [1] 3).bind fun v1 =>
  (rcv h v1 [4]).bind fun b4 =>
  hb (f_X6_iterator b4 h) fun v2 h3 =>
  b_X2_wrongMarks_10 (some a0) 0 v2 h3
theorem A_X2_wrongMarks {M : hp_M} {G : va_G} {h0 : HP} (X : hp_X M G h0 "RenamedWords$Desk" "wrongMarks" cX2_wrongMarks 4 (some .int) [] 8 244) (a0 : Nat) (h : HP) : vv M G h0 4 (hp_End M G h0) jI h 0 [(0, LR (some a0))] [] (f_X2_wrongMarks a0 h) := by
  unfold f_X2_wrongMarks
  refine vv_iconst (pc := 0) X dX2_wrongMarks_0 ?_
  refine vv_istore_n (pc := 1) (lv' := [(1, LI 0), (0, LR (some a0))]) X (kf := 1) (i := 1) rfl (by decide) rfl dX2_wrongMarks_1 ?_
  refine vv_aload_n (pc := 2) X (kf := 0) (i := 0) rfl 1 rfl dX2_wrongMarks_2 ?_
  refine vv_getR (pc := 3) X (fun _ z => by cases List.mem_singleton.mp z; exact fl_X2_27_1) dX2_wrongMarks_3 (fun v1 => ?_)
  refine vv_rcv (fun b4 t9 c9 fs9 e5 g9 k9 => ?_)
  cases List.mem_singleton.mp k9
  refine vv_callR (pc := 6) (rest := []) (by rw [e5]; rfl) (fun r8 k8 e8 => zz_callV X (m_X6_iterator (hlM X) _ _ _ _ e8) g9 rfl rfl q2147 q2148 q2149 q158 q2150 nh_X6 rfl (by decide) (by decide) (Nat.le_of_ble_eq_true rfl) dX2_wrongMarks_6) (fun v2 h3 => ?_)
  refine vv_astore_n (pc := 9) (lv' := [(2, LR v2), (1, LI 0), (0, LR (some a0))]) X (kf := 2) (i := 2) rfl (by decide) rfl dX2_wrongMarks_9 ?_
  exact vv_sub [2, 1, 0] (by rfl) (B_X2_wrongMarks_10 X _ _ _ _)
theorem m_X2_wrongMarks {l : Launch} (hl : l.stackTraces = false) {G : va_G} (a0 : Nat) (h : HP) : ∀ r hf, f_X2_wrongMarks a0 h = some (r, hf) → Ct l yX2_wrongMarks (ws_ yX2_wrongMarks cX2_wrongMarks 4 (some .int)) 8 244 G h [.ref a0] (jI r) hf :=
  zz_ofW hl (by decide +kernel) (lv := [(0, LR (some a0))]) (by simp [lv_args, lvL, lvV, zz_rfc, zz_rfs, zz_ci, zz_cr, zz_cj, zz_cf, zz_cd]) (by simp [lg_sl, zz_rfc, zz_ci, zz_cr, zz_cj, zz_cf, zz_cd]) (fun _ X => A_X2_wrongMarks X a0 h)
-- J14_abs java/lang/Math.abs(I)I
noncomputable def b_J14_abs_10 (s0 : Int) (h : HP) : Option ((Int) × HP) :=
  some (s0, h)
theorem B_J14_abs_10 {M : hp_M} {G : va_G} {h0 : HP} (X : hp_X M G h0 "java/lang/Math" "abs" cJ14_abs 1 (some .int) [] 0 0) (s0 : Int) (h : HP) : vv M G h0 1 (hp_End M G h0) jI h 10 [] [LI s0] (b_J14_abs_10 s0 h) := by
  unfold b_J14_abs_10
  exact vv_iretI X rfl rfl dJ14_abs_10
noncomputable def f_J14_abs (a1 : Int) (h : HP) : Option ((Int) × HP) :=
  iLE 0 a1
    (b_J14_abs_10 a1 h)
    (b_J14_abs_10 (-a1) h)
theorem A_J14_abs {M : hp_M} {G : va_G} {h0 : HP} (X : hp_X M G h0 "java/lang/Math" "abs" cJ14_abs 1 (some .int) [] 0 0) (a1 : Int) (h : HP) : vv M G h0 1 (hp_End M G h0) jI h 0 [(0, LI a1)] [] (f_J14_abs a1 h) := by
  unfold f_J14_abs
  refine vv_iload_n (pc := 0) X (kf := 0) (i := 0) rfl 0 rfl dJ14_abs_0 ?_
  refine vv_if_ge (pc := 1) (tgt := 9) X dJ14_abs_1 rfl ?_ ?_
  · refine vv_iload_n (pc := 9) X (kf := 0) (i := 0) rfl 0 rfl dJ14_abs_9 ?_
    exact vv_sub [] (by rfl) (B_J14_abs_10 X _ _)
  · refine vv_iload_n (pc := 4) X (kf := 0) (i := 0) rfl 0 rfl dJ14_abs_4 ?_
    refine vv_ineg (pc := 5) X dJ14_abs_5 ?_
    refine vv_goto (pc := 6) (tgt := 10) X dJ14_abs_6 rfl ?_
    exact vv_sub [] (by rfl) (B_J14_abs_10 X _ _)
theorem m_J14_abs {l : Launch} (hl : l.stackTraces = false) {G : va_G} (a1 : Int) (h : HP) : ∀ r hf, f_J14_abs a1 h = some (r, hf) → Ct l yJ14_abs (ws_ yJ14_abs cJ14_abs 1 (some .int)) 0 0 G h [.int (iI a1)] (jI r) hf :=
  zz_ofW hl (by decide +kernel) (lv := [(0, LI a1)]) (by simp [lv_args, lvL, lvV, zz_rfc, zz_rfs, zz_ci, zz_cr, zz_cj, zz_cf, zz_cd]) (by simp [lg_sl, zz_rfc, zz_ci, zz_cr, zz_cj, zz_cf, zz_cd]) (fun _ X => A_J14_abs X a1 h)
-- X1_gap RenamedWords.gap()I
noncomputable def f_X1_gap (a0 : Nat) (h : HP) : Option ((Int) × HP) :=
  (rdR h (some a0) [0] 0).bind fun v1 =>
  (rdR h v1 [1] 4).bind fun v2 =>
  (rdR h (some a0) [0] 0).bind fun v3 =>
  (rcv h v3 [1]).bind fun b6 =>
  hb (f_X2_wrongMarks b6 h) fun v4 h5 =>
  (aldI h5 .int v2 3).bind fun v8 =>
  (aldI h5 .int v2 4).bind fun v9 =>
  (aldI h5 .int v2 5).bind fun v10 =>
  (rdR h5 (some a0) [0] 0).bind fun v11 =>
  (rdR h5 v11 [1] 3).bind fun v12 =>
  (rdI h5 v12 [4] 2).bind fun v13 =>
  hb (f_J14_abs (((v8 - v9) - v10) - v13) h5) fun v14 h15 =>
  some ((v4 + v14), h15)
theorem A_X1_gap {M : hp_M} {G : va_G} {h0 : HP} (X : hp_X M G h0 "RenamedWords" "gap" cX1_gap 2 (some .int) [] 9 275) (a0 : Nat) (h : HP) : vv M G h0 2 (hp_End M G h0) jI h 0 [(0, LR (some a0))] [] (f_X1_gap a0 h) := by
  unfold f_X1_gap
  refine vv_aload_n (pc := 0) X (kf := 0) (i := 0) rfl 0 rfl dX1_gap_0 ?_
  refine vv_getR (pc := 1) X (fun _ z => by cases List.mem_singleton.mp z; exact fl_X1_35_0) dX1_gap_1 (fun v1 => ?_)
  refine vv_getR (pc := 4) X (fun _ z => by cases List.mem_singleton.mp z; exact fl_X1_311_1) dX1_gap_4 (fun v2 => ?_)
  refine vv_astore_n (pc := 7) (lv' := [(1, LR v2), (0, LR (some a0))]) X (kf := 1) (i := 1) rfl (by decide) rfl dX1_gap_7 ?_
  refine vv_aload_n (pc := 8) X (kf := 0) (i := 0) rfl 1 rfl dX1_gap_8 ?_
  refine vv_getR (pc := 9) X (fun _ z => by cases List.mem_singleton.mp z; exact fl_X1_35_0) dX1_gap_9 (fun v3 => ?_)
  refine vv_rcv (fun b6 t9 c9 fs9 e7 g9 k9 => ?_)
  cases List.mem_singleton.mp k9
  refine vv_callI (pc := 12) (rest := []) (by rw [e7]; rfl) (fun r8 k8 e8 => zz_callV X (m_X2_wrongMarks (hlM X) _ _ _ _ e8) g9 rfl rfl q2835 q2836 q2837 q133 q2838 nh_X2 rfl (by decide) (by decide) (Nat.le_of_ble_eq_true rfl) dX1_gap_12) (fun v4 h5 => ?_)
  refine vv_aload_n (pc := 15) X (kf := 1) (i := 1) rfl 0 rfl dX1_gap_15 ?_
  refine vv_iconst (pc := 16) X dX1_gap_16 ?_
  refine vv_iaload (pc := 17) X dX1_gap_17 (fun v8 => ?_)
  refine vv_aload_n (pc := 18) X (kf := 1) (i := 1) rfl 0 rfl dX1_gap_18 ?_
  refine vv_iconst (pc := 19) X dX1_gap_19 ?_
  refine vv_iaload (pc := 20) X dX1_gap_20 (fun v9 => ?_)
  refine vv_isub (pc := 21) X dX1_gap_21 ?_
  refine vv_aload_n (pc := 22) X (kf := 1) (i := 1) rfl 0 rfl dX1_gap_22 ?_
  refine vv_iconst (pc := 23) X dX1_gap_23 ?_
  refine vv_iaload (pc := 24) X dX1_gap_24 (fun v10 => ?_)
  refine vv_isub (pc := 25) X dX1_gap_25 ?_
  refine vv_aload_n (pc := 26) X (kf := 0) (i := 0) rfl 1 rfl dX1_gap_26 ?_
  refine vv_getR (pc := 27) X (fun _ z => by cases List.mem_singleton.mp z; exact fl_X1_35_0) dX1_gap_27 (fun v11 => ?_)
  refine vv_getR (pc := 30) X (fun _ z => by cases List.mem_singleton.mp z; exact fl_X1_196_1) dX1_gap_30 (fun v12 => ?_)
  refine vv_getI (pc := 33) X (fun _ z => by cases List.mem_singleton.mp z; exact fl_X1_200_4) dX1_gap_33 (fun v13 => ?_)
  refine vv_isub (pc := 36) X dX1_gap_36 ?_
  refine vv_callI (pc := 37) (rest := [LI v4]) (by rfl) (fun r8 k8 e8 => zz_callS X (m_J14_abs (hlM X) _ _ _ _ e8) q2839 q2840 q149 q2841 nh_J14 rfl (by decide) (by decide) (Nat.le_of_ble_eq_true rfl) dX1_gap_37) (fun v14 h15 => ?_)
  refine vv_iadd (pc := 40) X dX1_gap_40 ?_
  exact vv_iretI X rfl rfl dX1_gap_41
theorem m_X1_gap {l : Launch} (hl : l.stackTraces = false) {G : va_G} (a0 : Nat) (h : HP) : ∀ r hf, f_X1_gap a0 h = some (r, hf) → Ct l yX1_gap (ws_ yX1_gap cX1_gap 2 (some .int)) 9 275 G h [.ref a0] (jI r) hf :=
  zz_ofW hl (by decide +kernel) (lv := [(0, LR (some a0))]) (by simp [lv_args, lvL, lvV, zz_rfc, zz_rfs, zz_ci, zz_cr, zz_cj, zz_cf, zz_cd]) (by simp [lg_sl, zz_rfc, zz_ci, zz_cr, zz_cj, zz_cf, zz_cd]) (fun _ X => A_X1_gap X a0 h)
-- X9_gap RenamedWordsModel.gap()I
noncomputable def b_X9_gap_74 (r41 : Option Nat → Int → Int → HP → Option ((Int) × HP)) (x0 : Option Nat) (x2 : Int) (s0 : Int) (s1 : Int) (h : HP) : Option ((Int) × HP) :=
  hb (f_X9_one s0 h) fun v26 h27 =>
  r41 x0 (s1 + v26) (x2 + 1) h27
theorem B_X9_gap_74 {M : hp_M} {G : va_G} {h0 : HP} (X : hp_X M G h0 "RenamedWordsModel" "gap" cX9_gap 3 (some .int) [] 6 183) (r41 : Option Nat → Int → Int → HP → Option ((Int) × HP)) (hr41 : ∀ (y0 : Option Nat) (y1 : Int) (y2 : Int) (h : HP), vv M G h0 3 (hp_End M G h0) jI h 41 [(0, LR y0), (1, LI y1), (2, LI y2)] [] (r41 y0 y1 y2 h)) (x0 : Option Nat) (x2 : Int) (s0 : Int) (s1 : Int) (h : HP) : vv M G h0 3 (hp_End M G h0) jI h 74 [(0, LR x0), (2, LI x2)] [LI s0, LI s1] (b_X9_gap_74 r41 x0 x2 s0 s1 h) := by
  unfold b_X9_gap_74
  refine vv_callI (pc := 74) (rest := [LI s1]) (by rfl) (fun r8 k8 e8 => zz_callS X (m_X9_one (hlM X) _ _ _ _ e8) q3559 q3560 q164 q3561 nh_X9 rfl (by decide) (by decide) (Nat.le_of_ble_eq_true rfl) dX9_gap_74) (fun v26 h27 => ?_)
  refine vv_iadd (pc := 77) X dX9_gap_77 ?_
  refine vv_istore_n (pc := 78) (lv' := [(1, LI (s1 + v26)), (0, LR x0), (2, LI x2)]) X (kf := 1) (i := 1) rfl (by decide) rfl dX9_gap_78 ?_
  refine vv_iinc (pc := 79) (lv' := [(2, LI (x2 + 1)), (1, LI (s1 + v26)), (0, LR x0)]) X 2 rfl (by decide) rfl dX9_gap_79 ?_
  refine vv_goto (pc := 82) (tgt := 41) X dX9_gap_82 rfl ?_
  exact vv_sub [2, 1, 0] (by rfl) (hr41 _ _ _ _)
noncomputable def c_X9_gap_41 (r41 : Option Nat → Int → Int → HP → Option ((Int) × HP)) (x0 : Option Nat) (x1 : Int) (x2 : Int) (h : HP) : Option ((Int) × HP) :=
  (rdR h x0 [7] 0).bind fun v12 =>
  (aldI h .int v12 3).bind fun v13 =>
  iLE v13 x2
    (some (x1, h))
    ((rcv h x0 [7]).bind fun b16 =>
    hb (f_X9_markPattern b16 x2 h) fun v14 h15 =>
    (rcv h15 x0 [7]).bind fun b20 =>
    hb (f_X9_markPlace b20 x2 h15) fun v18 h19 =>
    (rcv h19 x0 [7]).bind fun b24 =>
    hb (f_X9_isThere b24 v14 v18 h19) fun v22 h23 =>
    iEQ v22 0
      (b_X9_gap_74 r41 x0 x2 1 x1 h23)
      (b_X9_gap_74 r41 x0 x2 0 x1 h23))
noncomputable def b_X9_gap_41 : Option Nat → Int → Int → HP → Option ((Int) × HP) := fx (fun _ _ _ _ => none) (c_X9_gap_41) FU
theorem C_X9_gap_41 {M : hp_M} {G : va_G} {h0 : HP} (X : hp_X M G h0 "RenamedWordsModel" "gap" cX9_gap 3 (some .int) [] 6 183) (r41 : Option Nat → Int → Int → HP → Option ((Int) × HP)) (hr41 : ∀ (y0 : Option Nat) (y1 : Int) (y2 : Int) (h : HP), vv M G h0 3 (hp_End M G h0) jI h 41 [(0, LR y0), (1, LI y1), (2, LI y2)] [] (r41 y0 y1 y2 h)) (x0 : Option Nat) (x1 : Int) (x2 : Int) (h : HP) : vv M G h0 3 (hp_End M G h0) jI h 41 [(0, LR x0), (1, LI x1), (2, LI x2)] [] (c_X9_gap_41 r41 x0 x1 x2 h) := by
  unfold c_X9_gap_41
  refine vv_iload_n (pc := 41) X (kf := 2) (i := 2) rfl 2 rfl dX9_gap_41 ?_
  refine vv_aload_n (pc := 42) X (kf := 0) (i := 0) rfl 0 rfl dX9_gap_42 ?_
  refine vv_getR (pc := 43) X (fun _ z => by cases List.mem_singleton.mp z; exact fl_X9_9_7) dX9_gap_43 (fun v12 => ?_)
  refine vv_iconst (pc := 46) X dX9_gap_46 ?_
  refine vv_iaload (pc := 47) X dX9_gap_47 (fun v13 => ?_)
  refine vv_icmp_ge (pc := 48) (tgt := 85) X dX9_gap_48 rfl ?_ ?_
  · refine vv_iload_n (pc := 85) X (kf := 1) (i := 1) rfl 1 rfl dX9_gap_85 ?_
    exact vv_iretI X rfl rfl dX9_gap_86
  · refine vv_iload_n (pc := 51) X (kf := 1) (i := 1) rfl 1 rfl dX9_gap_51 ?_
    refine vv_aload_n (pc := 52) X (kf := 0) (i := 0) rfl 0 rfl dX9_gap_52 ?_
    refine vv_aload_n (pc := 53) X (kf := 0) (i := 0) rfl 0 rfl dX9_gap_53 ?_
    refine vv_iload_n (pc := 54) X (kf := 2) (i := 2) rfl 2 rfl dX9_gap_54 ?_
    refine vv_rcv (fun b16 t9 c9 fs9 e17 g9 k9 => ?_)
    cases List.mem_singleton.mp k9
    refine vv_callI (pc := 55) (rest := [LR x0, LI x1]) (by rw [e17]; rfl) (fun r8 k8 e8 => zz_callV X (m_X9_markPattern (hlM X) _ _ _ _ _ e8) g9 rfl rfl q3759 q3761 qs91 q164 q3762 nh_X9 rfl (by decide) (by decide) (Nat.le_of_ble_eq_true rfl) dX9_gap_55) (fun v14 h15 => ?_)
    refine vv_aload_n (pc := 58) X (kf := 0) (i := 0) rfl 0 rfl dX9_gap_58 ?_
    refine vv_iload_n (pc := 59) X (kf := 2) (i := 2) rfl 2 rfl dX9_gap_59 ?_
    refine vv_rcv (fun b20 t9 c9 fs9 e21 g9 k9 => ?_)
    cases List.mem_singleton.mp k9
    refine vv_callI (pc := 60) (rest := [LI v14, LR x0, LI x1]) (by rw [e21]; rfl) (fun r8 k8 e8 => zz_callV X (m_X9_markPlace (hlM X) _ _ _ _ _ e8) g9 rfl rfl q3747 q3749 qs88 q164 q3750 nh_X9 rfl (by decide) (by decide) (Nat.le_of_ble_eq_true rfl) dX9_gap_60) (fun v18 h19 => ?_)
    refine vv_rcv (fun b24 t9 c9 fs9 e25 g9 k9 => ?_)
    cases List.mem_singleton.mp k9
    refine vv_callI (pc := 63) (rest := [LI x1]) (by rw [e25]; rfl) (fun r8 k8 e8 => zz_callV X (m_X9_isThere (hlM X) _ _ _ _ _ _ e8) g9 rfl rfl q3763 q3765 qs92 q164 q3766 nh_X9 rfl (by decide) (by decide) (Nat.le_of_ble_eq_true rfl) dX9_gap_63) (fun v22 h23 => ?_)
    refine vv_if_ne (pc := 66) (tgt := 73) X dX9_gap_66 rfl ?_ ?_
    · refine vv_iconst (pc := 73) X dX9_gap_73 ?_
      exact vv_sub [0, 2] (by rfl) (B_X9_gap_74 X r41 hr41 _ _ _ _ _)
    · refine vv_iconst (pc := 69) X dX9_gap_69 ?_
      refine vv_goto (pc := 70) (tgt := 74) X dX9_gap_70 rfl ?_
      exact vv_sub [0, 2] (by rfl) (B_X9_gap_74 X r41 hr41 _ _ _ _ _)
theorem B_X9_gap_41 {M : hp_M} {G : va_G} {h0 : HP} (X : hp_X M G h0 "RenamedWordsModel" "gap" cX9_gap 3 (some .int) [] 6 183) : ∀ (x0 : Option Nat) (x1 : Int) (x2 : Int) (h : HP), vv M G h0 3 (hp_End M G h0) jI h 41 [(0, LR x0), (1, LI x1), (2, LI x2)] [] (b_X9_gap_41 x0 x1 x2 h) := by
  unfold b_X9_gap_41
  generalize FU = n
  induction n with
  | zero => intro x0 x1 x2 h; exact vv_none
  | succ n ih => exact C_X9_gap_41 X _ ih
noncomputable def f_X9_gap (a0 : Nat) (h : HP) : Option ((Int) × HP) :=
  (wrI h (some a0) [7] 7 0).bind fun h1 =>
  (rdR h1 (some a0) [7] 0).bind fun v2 =>
  (aldI h1 .int v2 7).bind fun v3 =>
  (rdR h1 (some a0) [7] 0).bind fun v4 =>
  (aldI h1 .int v4 8).bind fun v5 =>
  (rdR h1 (some a0) [7] 0).bind fun v6 =>
  (aldI h1 .int v6 9).bind fun v7 =>
  (rdR h1 (some a0) [7] 0).bind fun v8 =>
  (aldI h1 .int v8 3).bind fun v9 =>
  hb (f_J14_abs (((v3 - v5) - v7) - v9) h1) fun v10 h11 =>
  b_X9_gap_41 (some a0) v10 0 h11
theorem A_X9_gap {M : hp_M} {G : va_G} {h0 : HP} (X : hp_X M G h0 "RenamedWordsModel" "gap" cX9_gap 3 (some .int) [] 6 183) (a0 : Nat) (h : HP) : vv M G h0 3 (hp_End M G h0) jI h 0 [(0, LR (some a0))] [] (f_X9_gap a0 h) := by
  unfold f_X9_gap
  refine vv_aload_n (pc := 0) X (kf := 0) (i := 0) rfl 0 rfl dX9_gap_0 ?_
  refine vv_iconst (pc := 1) X dX9_gap_1 ?_
  refine vv_putI (pc := 2) (fin := false) X (fun _ z => by cases List.mem_singleton.mp z; exact fl_X9_69_7) (fun z => nomatch z) (fun z => nomatch z) dX9_gap_2 (fun h1 => ?_)
  refine vv_aload_n (pc := 5) X (kf := 0) (i := 0) rfl 0 rfl dX9_gap_5 ?_
  refine vv_getR (pc := 6) X (fun _ z => by cases List.mem_singleton.mp z; exact fl_X9_9_7) dX9_gap_6 (fun v2 => ?_)
  refine vv_bipush (pc := 9) X (by decide) dX9_gap_9 ?_
  refine vv_iaload (pc := 11) X dX9_gap_11 (fun v3 => ?_)
  refine vv_aload_n (pc := 12) X (kf := 0) (i := 0) rfl 0 rfl dX9_gap_12 ?_
  refine vv_getR (pc := 13) X (fun _ z => by cases List.mem_singleton.mp z; exact fl_X9_9_7) dX9_gap_13 (fun v4 => ?_)
  refine vv_bipush (pc := 16) X (by decide) dX9_gap_16 ?_
  refine vv_iaload (pc := 18) X dX9_gap_18 (fun v5 => ?_)
  refine vv_isub (pc := 19) X dX9_gap_19 ?_
  refine vv_aload_n (pc := 20) X (kf := 0) (i := 0) rfl 0 rfl dX9_gap_20 ?_
  refine vv_getR (pc := 21) X (fun _ z => by cases List.mem_singleton.mp z; exact fl_X9_9_7) dX9_gap_21 (fun v6 => ?_)
  refine vv_bipush (pc := 24) X (by decide) dX9_gap_24 ?_
  refine vv_iaload (pc := 26) X dX9_gap_26 (fun v7 => ?_)
  refine vv_isub (pc := 27) X dX9_gap_27 ?_
  refine vv_aload_n (pc := 28) X (kf := 0) (i := 0) rfl 0 rfl dX9_gap_28 ?_
  refine vv_getR (pc := 29) X (fun _ z => by cases List.mem_singleton.mp z; exact fl_X9_9_7) dX9_gap_29 (fun v8 => ?_)
  refine vv_iconst (pc := 32) X dX9_gap_32 ?_
  refine vv_iaload (pc := 33) X dX9_gap_33 (fun v9 => ?_)
  refine vv_isub (pc := 34) X dX9_gap_34 ?_
  refine vv_callI (pc := 35) (rest := []) (by rfl) (fun r8 k8 e8 => zz_callS X (m_J14_abs (hlM X) _ _ _ _ e8) q3924 q2840 q149 q2841 nh_J14 rfl (by decide) (by decide) (Nat.le_of_ble_eq_true rfl) dX9_gap_35) (fun v10 h11 => ?_)
  refine vv_istore_n (pc := 38) (lv' := [(1, LI v10), (0, LR (some a0))]) X (kf := 1) (i := 1) rfl (by decide) rfl dX9_gap_38 ?_
  refine vv_iconst (pc := 39) X dX9_gap_39 ?_
  refine vv_istore_n (pc := 40) (lv' := [(2, LI 0), (1, LI v10), (0, LR (some a0))]) X (kf := 2) (i := 2) rfl (by decide) rfl dX9_gap_40 ?_
  exact vv_sub [2, 1, 0] (by rfl) (B_X9_gap_41 X _ _ _ _)
theorem m_X9_gap {l : Launch} (hl : l.stackTraces = false) {G : va_G} (a0 : Nat) (h : HP) : ∀ r hf, f_X9_gap a0 h = some (r, hf) → Ct l yX9_gap (ws_ yX9_gap cX9_gap 3 (some .int)) 6 183 G h [.ref a0] (jI r) hf :=
  zz_ofW hl (by decide +kernel) (lv := [(0, LR (some a0))]) (by simp [lv_args, lvL, lvV, zz_rfc, zz_rfs, zz_ci, zz_cr, zz_cj, zz_cf, zz_cd]) (by simp [lg_sl, zz_rfc, zz_ci, zz_cr, zz_cj, zz_cf, zz_cd]) (fun _ X => A_X9_gap X a0 h)
-- X1_meanBack RenamedWords.meanBack()D
noncomputable def b_X1_meanBack_80 (s0 : UInt64) (h : HP) : Option ((UInt64) × HP) :=
  some (s0, h)
theorem B_X1_meanBack_80 {M : hp_M} {G : va_G} {h0 : HP} (X : hp_X M G h0 "RenamedWords" "meanBack" cX1_meanBack 5 (some .double) [] 2 61) (s0 : UInt64) (h : HP) : vv M G h0 5 (hp_End M G h0) jD h 80 [] [LD s0] (b_X1_meanBack_80 s0 h) := by
  unfold b_X1_meanBack_80
  exact vv_dreturn X rfl rfl dX1_meanBack_80
noncomputable def b_X1_meanBack_56 (r6 : Option Nat → Int → Int → Int → HP → Option ((UInt64) × HP)) (x0 : Option Nat) (x1 : Int) (x3 : Int) (s0 : Int) (s1 : Int) (h : HP) : Option ((UInt64) × HP) :=
  hb (f_X1_one s0 h) fun v13 h14 =>
  r6 x0 x1 (s1 + v13) (x3 + 1) h14
theorem B_X1_meanBack_56 {M : hp_M} {G : va_G} {h0 : HP} (X : hp_X M G h0 "RenamedWords" "meanBack" cX1_meanBack 5 (some .double) [] 2 61) (r6 : Option Nat → Int → Int → Int → HP → Option ((UInt64) × HP)) (hr6 : ∀ (y0 : Option Nat) (y1 : Int) (y2 : Int) (y3 : Int) (h : HP), vv M G h0 5 (hp_End M G h0) jD h 6 [(0, LR y0), (1, LI y1), (2, LI y2), (3, LI y3)] [] (r6 y0 y1 y2 y3 h)) (x0 : Option Nat) (x1 : Int) (x3 : Int) (s0 : Int) (s1 : Int) (h : HP) : vv M G h0 5 (hp_End M G h0) jD h 56 [(0, LR x0), (1, LI x1), (3, LI x3)] [LI s0, LI s1] (b_X1_meanBack_56 r6 x0 x1 x3 s0 s1 h) := by
  unfold b_X1_meanBack_56
  refine vv_callI (pc := 56) (rest := [LI s1]) (by rfl) (fun r8 k8 e8 => zz_callS X (m_X1_one (hlM X) _ _ _ _ e8) q835 q836 q132 q837 nh_X1 rfl (by decide) (by decide) (Nat.le_of_ble_eq_true rfl) dX1_meanBack_56) (fun v13 h14 => ?_)
  refine vv_iadd (pc := 59) X dX1_meanBack_59 ?_
  refine vv_istore_n (pc := 60) (lv' := [(2, LI (s1 + v13)), (0, LR x0), (1, LI x1), (3, LI x3)]) X (kf := 2) (i := 2) rfl (by decide) rfl dX1_meanBack_60 ?_
  refine vv_iinc (pc := 61) (lv' := [(3, LI (x3 + 1)), (2, LI (s1 + v13)), (0, LR x0), (1, LI x1)]) X 3 rfl (by decide) rfl dX1_meanBack_61 ?_
  refine vv_goto (pc := 64) (tgt := 6) X dX1_meanBack_64 rfl ?_
  exact vv_sub [2, 3, 1, 0] (by rfl) (hr6 _ _ _ _ _)
noncomputable def c_X1_meanBack_6 (r6 : Option Nat → Int → Int → Int → HP → Option ((UInt64) × HP)) (x0 : Option Nat) (x1 : Int) (x2 : Int) (x3 : Int) (h : HP) : Option ((UInt64) × HP) :=
  (rdR h x0 [0] 0).bind fun v1 =>
  (rdR h v1 [1] 0).bind fun v2 =>
  (rdI h v2 [3] 3).bind fun v3 =>
  iLE v3 x3
    (iEQ x2 0
      (b_X1_meanBack_80 FP.dconst0 h)
      ((dDv (FP.i2d (iI x1)) (FP.i2d (iI x2))).bind fun v4 =>
      b_X1_meanBack_80 v4 h))
    ((rdR h x0 [0] 0).bind fun v5 =>
    (rdR h v5 [1] 0).bind fun v6 =>
    (rdR h x0 [0] 0).bind fun v7 =>
    (rdI h v7 [1] 7).bind fun v8 =>
    (rcv h v6 [3]).bind fun b11 =>
    hb (f_X5_back b11 x3 v8 h) fun v9 h10 =>
    iLE v9 0
      (b_X1_meanBack_56 r6 x0 (x1 + v9) x3 0 x2 h10)
      (b_X1_meanBack_56 r6 x0 (x1 + v9) x3 1 x2 h10))
noncomputable def b_X1_meanBack_6 : Option Nat → Int → Int → Int → HP → Option ((UInt64) × HP) := fx (fun _ _ _ _ _ => none) (c_X1_meanBack_6) FU
theorem C_X1_meanBack_6 {M : hp_M} {G : va_G} {h0 : HP} (X : hp_X M G h0 "RenamedWords" "meanBack" cX1_meanBack 5 (some .double) [] 2 61) (r6 : Option Nat → Int → Int → Int → HP → Option ((UInt64) × HP)) (hr6 : ∀ (y0 : Option Nat) (y1 : Int) (y2 : Int) (y3 : Int) (h : HP), vv M G h0 5 (hp_End M G h0) jD h 6 [(0, LR y0), (1, LI y1), (2, LI y2), (3, LI y3)] [] (r6 y0 y1 y2 y3 h)) (x0 : Option Nat) (x1 : Int) (x2 : Int) (x3 : Int) (h : HP) : vv M G h0 5 (hp_End M G h0) jD h 6 [(0, LR x0), (1, LI x1), (2, LI x2), (3, LI x3)] [] (c_X1_meanBack_6 r6 x0 x1 x2 x3 h) := by
  unfold c_X1_meanBack_6
  refine vv_iload_n (pc := 6) X (kf := 3) (i := 3) rfl 3 rfl dX1_meanBack_6 ?_
  refine vv_aload_n (pc := 7) X (kf := 0) (i := 0) rfl 0 rfl dX1_meanBack_7 ?_
  refine vv_getR (pc := 8) X (fun _ z => by cases List.mem_singleton.mp z; exact fl_X1_35_0) dX1_meanBack_8 (fun v1 => ?_)
  refine vv_getR (pc := 11) X (fun _ z => by cases List.mem_singleton.mp z; exact fl_X1_79_1) dX1_meanBack_11 (fun v2 => ?_)
  refine vv_getI (pc := 14) X (fun _ z => by cases List.mem_singleton.mp z; exact fl_X1_83_3) dX1_meanBack_14 (fun v3 => ?_)
  refine vv_icmp_ge (pc := 17) (tgt := 67) X dX1_meanBack_17 rfl ?_ ?_
  · refine vv_iload_n (pc := 67) X (kf := 2) (i := 2) rfl 2 rfl dX1_meanBack_67 ?_
    refine vv_if_ne (pc := 68) (tgt := 75) X dX1_meanBack_68 rfl ?_ ?_
    · refine vv_iload_n (pc := 75) X (kf := 1) (i := 1) rfl 1 rfl dX1_meanBack_75 ?_
      refine vv_i2d (pc := 76) X dX1_meanBack_76 ?_
      refine vv_iload_n (pc := 77) X (kf := 2) (i := 2) rfl 2 rfl dX1_meanBack_77 ?_
      refine vv_i2d (pc := 78) X dX1_meanBack_78 ?_
      refine vv_ddiv (pc := 79) X dX1_meanBack_79 (fun v4 => ?_)
      exact vv_sub [] (by rfl) (B_X1_meanBack_80 X _ _)
    · refine vv_dconst0 (pc := 71) X dX1_meanBack_71 ?_
      refine vv_goto (pc := 72) (tgt := 80) X dX1_meanBack_72 rfl ?_
      exact vv_sub [] (by rfl) (B_X1_meanBack_80 X _ _)
  · refine vv_aload_n (pc := 20) X (kf := 0) (i := 0) rfl 0 rfl dX1_meanBack_20 ?_
    refine vv_getR (pc := 21) X (fun _ z => by cases List.mem_singleton.mp z; exact fl_X1_35_0) dX1_meanBack_21 (fun v5 => ?_)
    refine vv_getR (pc := 24) X (fun _ z => by cases List.mem_singleton.mp z; exact fl_X1_79_1) dX1_meanBack_24 (fun v6 => ?_)
    refine vv_iload_n (pc := 27) X (kf := 3) (i := 3) rfl 3 rfl dX1_meanBack_27 ?_
    refine vv_aload_n (pc := 28) X (kf := 0) (i := 0) rfl 0 rfl dX1_meanBack_28 ?_
    refine vv_getR (pc := 29) X (fun _ z => by cases List.mem_singleton.mp z; exact fl_X1_35_0) dX1_meanBack_29 (fun v7 => ?_)
    refine vv_getI (pc := 32) X (fun _ z => by cases List.mem_singleton.mp z; exact fl_X1_189_1) dX1_meanBack_32 (fun v8 => ?_)
    refine vv_rcv (fun b11 t9 c9 fs9 e12 g9 k9 => ?_)
    cases List.mem_singleton.mp k9
    refine vv_callI (pc := 35) (rest := []) (by rw [e12]; rfl) (fun r8 k8 e8 => zz_callV X (m_X5_back (hlM X) _ _ _ _ _ _ e8) g9 rfl rfl q2846 q2649 q4112 q157 q2650 nh_X5 rfl (by decide) (by decide) (Nat.le_of_ble_eq_true rfl) dX1_meanBack_35) (fun v9 h10 => ?_)
    refine vv_istore (pc := 38) (lv' := [(4, LI v9), (0, LR x0), (1, LI x1), (2, LI x2), (3, LI x3)]) X (by decide) rfl dX1_meanBack_38 ?_
    refine vv_iload_n (pc := 40) X (kf := 1) (i := 1) rfl 2 rfl dX1_meanBack_40 ?_
    refine vv_iload (pc := 41) X 0 rfl dX1_meanBack_41 ?_
    refine vv_iadd (pc := 43) X dX1_meanBack_43 ?_
    refine vv_istore_n (pc := 44) (lv' := [(1, LI (x1 + v9)), (4, LI v9), (0, LR x0), (2, LI x2), (3, LI x3)]) X (kf := 1) (i := 1) rfl (by decide) rfl dX1_meanBack_44 ?_
    refine vv_iload_n (pc := 45) X (kf := 2) (i := 2) rfl 3 rfl dX1_meanBack_45 ?_
    refine vv_iload (pc := 46) X 1 rfl dX1_meanBack_46 ?_
    refine vv_if_le (pc := 48) (tgt := 55) X dX1_meanBack_48 rfl ?_ ?_
    · refine vv_iconst (pc := 55) X dX1_meanBack_55 ?_
      exact vv_sub [2, 0, 4] (by rfl) (B_X1_meanBack_56 X r6 hr6 _ _ _ _ _ _)
    · refine vv_iconst (pc := 51) X dX1_meanBack_51 ?_
      refine vv_goto (pc := 52) (tgt := 56) X dX1_meanBack_52 rfl ?_
      exact vv_sub [2, 0, 4] (by rfl) (B_X1_meanBack_56 X r6 hr6 _ _ _ _ _ _)
theorem B_X1_meanBack_6 {M : hp_M} {G : va_G} {h0 : HP} (X : hp_X M G h0 "RenamedWords" "meanBack" cX1_meanBack 5 (some .double) [] 2 61) : ∀ (x0 : Option Nat) (x1 : Int) (x2 : Int) (x3 : Int) (h : HP), vv M G h0 5 (hp_End M G h0) jD h 6 [(0, LR x0), (1, LI x1), (2, LI x2), (3, LI x3)] [] (b_X1_meanBack_6 x0 x1 x2 x3 h) := by
  unfold b_X1_meanBack_6
  generalize FU = n
  induction n with
  | zero => intro x0 x1 x2 x3 h; exact vv_none
  | succ n ih => exact C_X1_meanBack_6 X _ ih
noncomputable def f_X1_meanBack (a0 : Nat) (h : HP) : Option ((UInt64) × HP) :=
  b_X1_meanBack_6 (some a0) 0 0 0 h
theorem A_X1_meanBack {M : hp_M} {G : va_G} {h0 : HP} (X : hp_X M G h0 "RenamedWords" "meanBack" cX1_meanBack 5 (some .double) [] 2 61) (a0 : Nat) (h : HP) : vv M G h0 5 (hp_End M G h0) jD h 0 [(0, LR (some a0))] [] (f_X1_meanBack a0 h) := by
  unfold f_X1_meanBack
  refine vv_iconst (pc := 0) X dX1_meanBack_0 ?_
  refine vv_istore_n (pc := 1) (lv' := [(1, LI 0), (0, LR (some a0))]) X (kf := 1) (i := 1) rfl (by decide) rfl dX1_meanBack_1 ?_
  refine vv_iconst (pc := 2) X dX1_meanBack_2 ?_
  refine vv_istore_n (pc := 3) (lv' := [(2, LI 0), (1, LI 0), (0, LR (some a0))]) X (kf := 2) (i := 2) rfl (by decide) rfl dX1_meanBack_3 ?_
  refine vv_iconst (pc := 4) X dX1_meanBack_4 ?_
  refine vv_istore_n (pc := 5) (lv' := [(3, LI 0), (2, LI 0), (1, LI 0), (0, LR (some a0))]) X (kf := 3) (i := 3) rfl (by decide) rfl dX1_meanBack_5 ?_
  exact vv_sub [3, 2, 1, 0] (by rfl) (B_X1_meanBack_6 X _ _ _ _ _)
theorem m_X1_meanBack {l : Launch} (hl : l.stackTraces = false) {G : va_G} (a0 : Nat) (h : HP) : ∀ r hf, f_X1_meanBack a0 h = some (r, hf) → Ct l yX1_meanBack (ws_ yX1_meanBack cX1_meanBack 5 (some .double)) 2 61 G h [.ref a0] (jD r) hf :=
  zz_ofW hl (by decide +kernel) (lv := [(0, LR (some a0))]) (by simp [lv_args, lvL, lvV, zz_rfc, zz_rfs, zz_ci, zz_cr, zz_cj, zz_cf, zz_cd]) (by simp [lg_sl, zz_rfc, zz_ci, zz_cr, zz_cj, zz_cf, zz_cd]) (fun _ X => A_X1_meanBack X a0 h)
-- X9_meanBack RenamedWordsModel.meanBack()D
noncomputable def b_X9_meanBack_70 (s0 : UInt64) (h : HP) : Option ((UInt64) × HP) :=
  some (s0, h)
theorem B_X9_meanBack_70 {M : hp_M} {G : va_G} {h0 : HP} (X : hp_X M G h0 "RenamedWordsModel" "meanBack" cX9_meanBack 5 (some .double) [] 2 61) (s0 : UInt64) (h : HP) : vv M G h0 5 (hp_End M G h0) jD h 70 [] [LD s0] (b_X9_meanBack_70 s0 h) := by
  unfold b_X9_meanBack_70
  exact vv_dreturn X rfl rfl dX9_meanBack_70
noncomputable def b_X9_meanBack_46 (r11 : Option Nat → Int → Int → Int → HP → Option ((UInt64) × HP)) (x0 : Option Nat) (x1 : Int) (x3 : Int) (s0 : Int) (s1 : Int) (h : HP) : Option ((UInt64) × HP) :=
  hb (f_X9_one s0 h) fun v9 h10 =>
  r11 x0 x1 (s1 + v9) (x3 + 1) h10
theorem B_X9_meanBack_46 {M : hp_M} {G : va_G} {h0 : HP} (X : hp_X M G h0 "RenamedWordsModel" "meanBack" cX9_meanBack 5 (some .double) [] 2 61) (r11 : Option Nat → Int → Int → Int → HP → Option ((UInt64) × HP)) (hr11 : ∀ (y0 : Option Nat) (y1 : Int) (y2 : Int) (y3 : Int) (h : HP), vv M G h0 5 (hp_End M G h0) jD h 11 [(0, LR y0), (1, LI y1), (2, LI y2), (3, LI y3)] [] (r11 y0 y1 y2 y3 h)) (x0 : Option Nat) (x1 : Int) (x3 : Int) (s0 : Int) (s1 : Int) (h : HP) : vv M G h0 5 (hp_End M G h0) jD h 46 [(0, LR x0), (1, LI x1), (3, LI x3)] [LI s0, LI s1] (b_X9_meanBack_46 r11 x0 x1 x3 s0 s1 h) := by
  unfold b_X9_meanBack_46
  refine vv_callI (pc := 46) (rest := [LI s1]) (by rfl) (fun r8 k8 e8 => zz_callS X (m_X9_one (hlM X) _ _ _ _ e8) q3559 q3560 q164 q3561 nh_X9 rfl (by decide) (by decide) (Nat.le_of_ble_eq_true rfl) dX9_meanBack_46) (fun v9 h10 => ?_)
  refine vv_iadd (pc := 49) X dX9_meanBack_49 ?_
  refine vv_istore_n (pc := 50) (lv' := [(2, LI (s1 + v9)), (0, LR x0), (1, LI x1), (3, LI x3)]) X (kf := 2) (i := 2) rfl (by decide) rfl dX9_meanBack_50 ?_
  refine vv_iinc (pc := 51) (lv' := [(3, LI (x3 + 1)), (2, LI (s1 + v9)), (0, LR x0), (1, LI x1)]) X 3 rfl (by decide) rfl dX9_meanBack_51 ?_
  refine vv_goto (pc := 54) (tgt := 11) X dX9_meanBack_54 rfl ?_
  exact vv_sub [2, 3, 1, 0] (by rfl) (hr11 _ _ _ _ _)
noncomputable def c_X9_meanBack_11 (r11 : Option Nat → Int → Int → Int → HP → Option ((UInt64) × HP)) (x0 : Option Nat) (x1 : Int) (x2 : Int) (x3 : Int) (h : HP) : Option ((UInt64) × HP) :=
  (rdR h x0 [7] 0).bind fun v2 =>
  (aldI h .int v2 1).bind fun v3 =>
  iLE v3 x3
    (iEQ x2 0
      (b_X9_meanBack_70 FP.dconst0 h)
      ((dDv (FP.i2d (iI x1)) (FP.i2d (iI x2))).bind fun v4 =>
      b_X9_meanBack_70 v4 h))
    ((rcv h x0 [7]).bind fun b7 =>
    hb (f_X9_backOf b7 16 x3 h) fun v5 h6 =>
    iLE v5 0
      (b_X9_meanBack_46 r11 x0 (x1 + v5) x3 0 x2 h6)
      (b_X9_meanBack_46 r11 x0 (x1 + v5) x3 1 x2 h6))
noncomputable def b_X9_meanBack_11 : Option Nat → Int → Int → Int → HP → Option ((UInt64) × HP) := fx (fun _ _ _ _ _ => none) (c_X9_meanBack_11) FU
theorem C_X9_meanBack_11 {M : hp_M} {G : va_G} {h0 : HP} (X : hp_X M G h0 "RenamedWordsModel" "meanBack" cX9_meanBack 5 (some .double) [] 2 61) (r11 : Option Nat → Int → Int → Int → HP → Option ((UInt64) × HP)) (hr11 : ∀ (y0 : Option Nat) (y1 : Int) (y2 : Int) (y3 : Int) (h : HP), vv M G h0 5 (hp_End M G h0) jD h 11 [(0, LR y0), (1, LI y1), (2, LI y2), (3, LI y3)] [] (r11 y0 y1 y2 y3 h)) (x0 : Option Nat) (x1 : Int) (x2 : Int) (x3 : Int) (h : HP) : vv M G h0 5 (hp_End M G h0) jD h 11 [(0, LR x0), (1, LI x1), (2, LI x2), (3, LI x3)] [] (c_X9_meanBack_11 r11 x0 x1 x2 x3 h) := by
  unfold c_X9_meanBack_11
  refine vv_iload_n (pc := 11) X (kf := 3) (i := 3) rfl 3 rfl dX9_meanBack_11 ?_
  refine vv_aload_n (pc := 12) X (kf := 0) (i := 0) rfl 0 rfl dX9_meanBack_12 ?_
  refine vv_getR (pc := 13) X (fun _ z => by cases List.mem_singleton.mp z; exact fl_X9_9_7) dX9_meanBack_13 (fun v2 => ?_)
  refine vv_iconst (pc := 16) X dX9_meanBack_16 ?_
  refine vv_iaload (pc := 17) X dX9_meanBack_17 (fun v3 => ?_)
  refine vv_icmp_ge (pc := 18) (tgt := 57) X dX9_meanBack_18 rfl ?_ ?_
  · refine vv_iload_n (pc := 57) X (kf := 2) (i := 2) rfl 2 rfl dX9_meanBack_57 ?_
    refine vv_if_ne (pc := 58) (tgt := 65) X dX9_meanBack_58 rfl ?_ ?_
    · refine vv_iload_n (pc := 65) X (kf := 1) (i := 1) rfl 1 rfl dX9_meanBack_65 ?_
      refine vv_i2d (pc := 66) X dX9_meanBack_66 ?_
      refine vv_iload_n (pc := 67) X (kf := 2) (i := 2) rfl 2 rfl dX9_meanBack_67 ?_
      refine vv_i2d (pc := 68) X dX9_meanBack_68 ?_
      refine vv_ddiv (pc := 69) X dX9_meanBack_69 (fun v4 => ?_)
      exact vv_sub [] (by rfl) (B_X9_meanBack_70 X _ _)
    · refine vv_dconst0 (pc := 61) X dX9_meanBack_61 ?_
      refine vv_goto (pc := 62) (tgt := 70) X dX9_meanBack_62 rfl ?_
      exact vv_sub [] (by rfl) (B_X9_meanBack_70 X _ _)
  · refine vv_aload_n (pc := 21) X (kf := 0) (i := 0) rfl 0 rfl dX9_meanBack_21 ?_
    refine vv_bipush (pc := 22) X (by decide) dX9_meanBack_22 ?_
    refine vv_iload_n (pc := 24) X (kf := 3) (i := 3) rfl 3 rfl dX9_meanBack_24 ?_
    refine vv_rcv (fun b7 t9 c9 fs9 e8 g9 k9 => ?_)
    cases List.mem_singleton.mp k9
    refine vv_callI (pc := 25) (rest := []) (by rw [e8]; rfl) (fun r8 k8 e8 => zz_callV X (m_X9_backOf (hlM X) _ _ _ _ _ _ e8) g9 rfl rfl q3793 q3795 qs98 q164 q3796 nh_X9 rfl (by decide) (by decide) (Nat.le_of_ble_eq_true rfl) dX9_meanBack_25) (fun v5 h6 => ?_)
    refine vv_istore (pc := 28) (lv' := [(4, LI v5), (0, LR x0), (1, LI x1), (2, LI x2), (3, LI x3)]) X (by decide) rfl dX9_meanBack_28 ?_
    refine vv_iload_n (pc := 30) X (kf := 1) (i := 1) rfl 2 rfl dX9_meanBack_30 ?_
    refine vv_iload (pc := 31) X 0 rfl dX9_meanBack_31 ?_
    refine vv_iadd (pc := 33) X dX9_meanBack_33 ?_
    refine vv_istore_n (pc := 34) (lv' := [(1, LI (x1 + v5)), (4, LI v5), (0, LR x0), (2, LI x2), (3, LI x3)]) X (kf := 1) (i := 1) rfl (by decide) rfl dX9_meanBack_34 ?_
    refine vv_iload_n (pc := 35) X (kf := 2) (i := 2) rfl 3 rfl dX9_meanBack_35 ?_
    refine vv_iload (pc := 36) X 1 rfl dX9_meanBack_36 ?_
    refine vv_if_le (pc := 38) (tgt := 45) X dX9_meanBack_38 rfl ?_ ?_
    · refine vv_iconst (pc := 45) X dX9_meanBack_45 ?_
      exact vv_sub [2, 0, 4] (by rfl) (B_X9_meanBack_46 X r11 hr11 _ _ _ _ _ _)
    · refine vv_iconst (pc := 41) X dX9_meanBack_41 ?_
      refine vv_goto (pc := 42) (tgt := 46) X dX9_meanBack_42 rfl ?_
      exact vv_sub [2, 0, 4] (by rfl) (B_X9_meanBack_46 X r11 hr11 _ _ _ _ _ _)
theorem B_X9_meanBack_11 {M : hp_M} {G : va_G} {h0 : HP} (X : hp_X M G h0 "RenamedWordsModel" "meanBack" cX9_meanBack 5 (some .double) [] 2 61) : ∀ (x0 : Option Nat) (x1 : Int) (x2 : Int) (x3 : Int) (h : HP), vv M G h0 5 (hp_End M G h0) jD h 11 [(0, LR x0), (1, LI x1), (2, LI x2), (3, LI x3)] [] (b_X9_meanBack_11 x0 x1 x2 x3 h) := by
  unfold b_X9_meanBack_11
  generalize FU = n
  induction n with
  | zero => intro x0 x1 x2 x3 h; exact vv_none
  | succ n ih => exact C_X9_meanBack_11 X _ ih
noncomputable def f_X9_meanBack (a0 : Nat) (h : HP) : Option ((UInt64) × HP) :=
  (wrI h (some a0) [7] 7 0).bind fun h1 =>
  b_X9_meanBack_11 (some a0) 0 0 0 h1
theorem A_X9_meanBack {M : hp_M} {G : va_G} {h0 : HP} (X : hp_X M G h0 "RenamedWordsModel" "meanBack" cX9_meanBack 5 (some .double) [] 2 61) (a0 : Nat) (h : HP) : vv M G h0 5 (hp_End M G h0) jD h 0 [(0, LR (some a0))] [] (f_X9_meanBack a0 h) := by
  unfold f_X9_meanBack
  refine vv_aload_n (pc := 0) X (kf := 0) (i := 0) rfl 0 rfl dX9_meanBack_0 ?_
  refine vv_iconst (pc := 1) X dX9_meanBack_1 ?_
  refine vv_putI (pc := 2) (fin := false) X (fun _ z => by cases List.mem_singleton.mp z; exact fl_X9_69_7) (fun z => nomatch z) (fun z => nomatch z) dX9_meanBack_2 (fun h1 => ?_)
  refine vv_iconst (pc := 5) X dX9_meanBack_5 ?_
  refine vv_istore_n (pc := 6) (lv' := [(1, LI 0), (0, LR (some a0))]) X (kf := 1) (i := 1) rfl (by decide) rfl dX9_meanBack_6 ?_
  refine vv_iconst (pc := 7) X dX9_meanBack_7 ?_
  refine vv_istore_n (pc := 8) (lv' := [(2, LI 0), (1, LI 0), (0, LR (some a0))]) X (kf := 2) (i := 2) rfl (by decide) rfl dX9_meanBack_8 ?_
  refine vv_iconst (pc := 9) X dX9_meanBack_9 ?_
  refine vv_istore_n (pc := 10) (lv' := [(3, LI 0), (2, LI 0), (1, LI 0), (0, LR (some a0))]) X (kf := 3) (i := 3) rfl (by decide) rfl dX9_meanBack_10 ?_
  exact vv_sub [3, 2, 1, 0] (by rfl) (B_X9_meanBack_11 X _ _ _ _ _)
theorem m_X9_meanBack {l : Launch} (hl : l.stackTraces = false) {G : va_G} (a0 : Nat) (h : HP) : ∀ r hf, f_X9_meanBack a0 h = some (r, hf) → Ct l yX9_meanBack (ws_ yX9_meanBack cX9_meanBack 5 (some .double)) 2 61 G h [.ref a0] (jD r) hf :=
  zz_ofW hl (by decide +kernel) (lv := [(0, LR (some a0))]) (by simp [lv_args, lvL, lvV, zz_rfc, zz_rfs, zz_ci, zz_cr, zz_cj, zz_cf, zz_cd]) (by simp [lg_sl, zz_rfc, zz_ci, zz_cr, zz_cj, zz_cf, zz_cd]) (fun _ X => A_X9_meanBack X a0 h)
-- J40_checkRange java/util/BitSet.checkRange(II)V
noncomputable def f_J40_checkRange (a1 : Int) (a2 : Int) (h : HP) : Option ((Unit) × HP) :=
  iLE 0 a1
    (iLE 0 a2
      (iLE a1 a2
        (some ((), h))
        (none))
      (none))
    (none)
theorem A_J40_checkRange {M : hp_M} {G : va_G} {h0 : HP} (X : hp_X M G h0 "java/util/BitSet" "checkRange" cJ40_checkRange 2 none [] 0 0) (a1 : Int) (a2 : Int) (h : HP) : vv M G h0 2 (hp_End M G h0) jV h 0 [(0, LI a1), (1, LI a2)] [] (f_J40_checkRange a1 a2 h) := by
  unfold f_J40_checkRange
  refine vv_iload_n (pc := 0) X (kf := 0) (i := 0) rfl 0 rfl dJ40_checkRange_0 ?_
  refine vv_if_ge (pc := 1) (tgt := 31) X dJ40_checkRange_1 rfl ?_ ?_
  · refine vv_iload_n (pc := 31) X (kf := 1) (i := 1) rfl 1 rfl dJ40_checkRange_31 ?_
    refine vv_if_ge (pc := 32) (tgt := 62) X dJ40_checkRange_32 rfl ?_ ?_
    · refine vv_iload_n (pc := 62) X (kf := 0) (i := 0) rfl 0 rfl dJ40_checkRange_62 ?_
      refine vv_iload_n (pc := 63) X (kf := 1) (i := 1) rfl 1 rfl dJ40_checkRange_63 ?_
      refine vv_icmp_le (pc := 64) (tgt := 103) X dJ40_checkRange_64 rfl ?_ ?_
      · exact vv_vreturn X rfl rfl dJ40_checkRange_103
      · exact vv_none
    · exact vv_none
  · exact vv_none
theorem m_J40_checkRange {l : Launch} (hl : l.stackTraces = false) {G : va_G} (a1 : Int) (a2 : Int) (h : HP) : ∀ r hf, f_J40_checkRange a1 a2 h = some (r, hf) → Ct l yJ40_checkRange (ws_ yJ40_checkRange cJ40_checkRange 2 none) 0 0 G h [.int (iI a1), .int (iI a2)] (jV r) hf :=
  zz_ofW hl (by decide +kernel) (lv := [(0, LI a1), (1, LI a2)]) (by simp [lv_args, lvL, lvV, zz_rfc, zz_rfs, zz_ci, zz_cr, zz_cj, zz_cf, zz_cd]) (by simp [lg_sl, zz_rfc, zz_ci, zz_cr, zz_cj, zz_cf, zz_cd]) (fun _ X => A_J40_checkRange X a1 a2 h)
