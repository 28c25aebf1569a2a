/-! STAGE 1c: functions and contracts (printed by gen/mkfuncs.py). -/
set_option maxRecDepth 100000
set_option linter.unusedVariables false
-- X9_take RenamedWordsModel.take(III)I
noncomputable def b_X9_take_45 (h : HP) : Option ((Int) × HP) :=
  some (0, h)
theorem B_X9_take_45 {M : hp_M} {G : va_G} {h0 : HP} (X : hp_X M G h0 "RenamedWordsModel" "take" cX9_take 4 (some .int) [] 9 274) (h : HP) : vv M G h0 4 (hp_End M G h0) jI h 45 [] [] (b_X9_take_45 h) := by
  unfold b_X9_take_45
  refine vv_iconst (pc := 45) X dX9_take_45 ?_
  exact vv_iretI X rfl rfl dX9_take_46
noncomputable def b_X9_take_38 (x0 : Option Nat) (x1 : Int) (x2 : Int) (x3 : Int) (s0 : Int) (s1 : Option Nat) (h : HP) : Option ((Int) × HP) :=
  (rcv h s1 [7]).bind fun b14 =>
  hb (f_X9_fails b14 s0 2 h) fun v12 h13 =>
  iEQ v12 0
    ((rcv h13 x0 [7]).bind fun b18 =>
    hb (f_X9_holds b18 h13) fun _ h17 =>
    (rcv h17 x0 [7]).bind fun b22 =>
    hb (f_X9_takeNow b22 x1 x2 x3 h17) fun v20 h21 =>
    (rcv h21 x0 [7]).bind fun b26 =>
    hb (f_X9_recorded b26 v20 h21) fun v24 h25 =>
    some (v24, h25))
    (b_X9_take_45 h13)
theorem B_X9_take_38 {M : hp_M} {G : va_G} {h0 : HP} (X : hp_X M G h0 "RenamedWordsModel" "take" cX9_take 4 (some .int) [] 9 274) (x0 : Option Nat) (x1 : Int) (x2 : Int) (x3 : Int) (s0 : Int) (s1 : Option Nat) (h : HP) : vv M G h0 4 (hp_End M G h0) jI h 38 [(0, LR x0), (1, LI x1), (2, LI x2), (3, LI x3)] [LI s0, LR s1] (b_X9_take_38 x0 x1 x2 x3 s0 s1 h) := by
  unfold b_X9_take_38
  refine vv_iconst (pc := 38) X dX9_take_38 ?_
  refine vv_rcv (fun b14 t9 c9 fs9 e15 g9 k9 => ?_)
  cases List.mem_singleton.mp k9
  refine vv_callI (pc := 39) (rest := []) (by rw [e15]; rfl) (fun r8 k8 e8 => zz_callV X (m_X9_fails (hlM X) _ _ _ _ _ _ e8) g9 rfl rfl q3841 q3843 qs109 q164 q3844 nh_X9 rfl (by decide) (by decide) (Nat.le_of_ble_eq_true rfl) dX9_take_39) (fun v12 h13 => ?_)
  refine vv_if_eq (pc := 42) (tgt := 47) X dX9_take_42 rfl ?_ ?_
  · refine vv_aload_n (pc := 47) X (kf := 0) (i := 0) rfl 0 rfl dX9_take_47 ?_
    refine vv_rcv (fun b18 t9 c9 fs9 e19 g9 k9 => ?_)
    cases List.mem_singleton.mp k9
    refine vv_callV (pc := 48) (rest := []) (by rw [e19]; rfl) (fun r8 k8 e8 => zz_callV X (m_X9_holds (hlM X) _ _ _ _ e8) g9 rfl rfl q4019 q4021 qs126 q164 q4022 nh_X9 rfl (by decide) (by decide) (Nat.le_of_ble_eq_true rfl) dX9_take_48) (fun v16 h17 => ?_)
    refine vv_aload_n (pc := 51) X (kf := 0) (i := 0) rfl 0 rfl dX9_take_51 ?_
    refine vv_aload_n (pc := 52) X (kf := 0) (i := 0) rfl 0 rfl dX9_take_52 ?_
    refine vv_iload_n (pc := 53) X (kf := 1) (i := 1) rfl 1 rfl dX9_take_53 ?_
    refine vv_iload_n (pc := 54) X (kf := 2) (i := 2) rfl 2 rfl dX9_take_54 ?_
    refine vv_iload_n (pc := 55) X (kf := 3) (i := 3) rfl 3 rfl dX9_take_55 ?_
    refine vv_rcv (fun b22 t9 c9 fs9 e23 g9 k9 => ?_)
    cases List.mem_singleton.mp k9
    refine vv_callI (pc := 56) (rest := [LR x0]) (by rw [e23]; rfl) (fun r8 k8 e8 => zz_callV X (m_X9_takeNow (hlM X) _ _ _ _ _ _ _ e8) g9 rfl rfl q3825 q3827 qs106 q164 q3828 nh_X9 rfl (by decide) (by decide) (Nat.le_of_ble_eq_true rfl) dX9_take_56) (fun v20 h21 => ?_)
    refine vv_rcv (fun b26 t9 c9 fs9 e27 g9 k9 => ?_)
    cases List.mem_singleton.mp k9
    refine vv_callI (pc := 59) (rest := []) (by rw [e27]; rfl) (fun r8 k8 e8 => zz_callV X (m_X9_recorded (hlM X) _ _ _ _ _ e8) g9 rfl rfl q4023 q4025 qs127 q164 q4026 nh_X9 rfl (by decide) (by decide) (Nat.le_of_ble_eq_true rfl) dX9_take_59) (fun v24 h25 => ?_)
    exact vv_iretI X rfl rfl dX9_take_62
  · exact vv_sub [] (by rfl) (B_X9_take_45 X _)
noncomputable def f_X9_take (a0 : Nat) (a1 : Int) (a2 : Int) (a3 : Int) (h : HP) : Option ((Int) × HP) :=
  (wrI h (some a0) [7] 7 0).bind fun h1 =>
  (rcv h1 (some a0) [7]).bind fun b4 =>
  hb (f_X9_noPattern b4 a1 h1) fun v2 h3 =>
  iEQ v2 0
    ((rcv h3 (some a0) [7]).bind fun b8 =>
    hb (f_X9_noOne b8 a2 2 h3) fun v6 h7 =>
    iEQ v6 0
      (hb (f_X9_in a3 1 20 h7) fun v10 h11 =>
      iEQ v10 0
        (b_X9_take_38 (some a0) a1 a2 a3 1 (some a0) h11)
        (b_X9_take_38 (some a0) a1 a2 a3 0 (some a0) h11))
      (b_X9_take_45 h7))
    (b_X9_take_45 h3)
theorem A_X9_take {M : hp_M} {G : va_G} {h0 : HP} (X : hp_X M G h0 "RenamedWordsModel" "take" cX9_take 4 (some .int) [] 9 274) (a0 : Nat) (a1 : Int) (a2 : Int) (a3 : Int) (h : HP) : vv M G h0 4 (hp_End M G h0) jI h 0 [(0, LR (some a0)), (1, LI a1), (2, LI a2), (3, LI a3)] [] (f_X9_take a0 a1 a2 a3 h) := by
  unfold f_X9_take
  refine vv_aload_n (pc := 0) X (kf := 0) (i := 0) rfl 0 rfl dX9_take_0 ?_
  refine vv_iconst (pc := 1) X dX9_take_1 ?_
  refine vv_putI (pc := 2) (fin := false) X (fun _ z => by cases List.mem_singleton.mp z; exact fl_X9_69_7) (fun z => nomatch z) (fun z => nomatch z) dX9_take_2 (fun h1 => ?_)
  refine vv_aload_n (pc := 5) X (kf := 0) (i := 0) rfl 0 rfl dX9_take_5 ?_
  refine vv_iload_n (pc := 6) X (kf := 1) (i := 1) rfl 1 rfl dX9_take_6 ?_
  refine vv_rcv (fun b4 t9 c9 fs9 e5 g9 k9 => ?_)
  cases List.mem_singleton.mp k9
  refine vv_callI (pc := 7) (rest := []) (by rw [e5]; rfl) (fun r8 k8 e8 => zz_callV X (m_X9_noPattern (hlM X) _ _ _ _ _ e8) g9 rfl rfl q3876 q3878 qs113 q164 q3879 nh_X9 rfl (by decide) (by decide) (Nat.le_of_ble_eq_true rfl) dX9_take_7) (fun v2 h3 => ?_)
  refine vv_if_ne (pc := 10) (tgt := 45) X dX9_take_10 rfl ?_ ?_
  · exact vv_sub [] (by rfl) (B_X9_take_45 X _)
  · refine vv_aload_n (pc := 13) X (kf := 0) (i := 0) rfl 0 rfl dX9_take_13 ?_
    refine vv_iload_n (pc := 14) X (kf := 2) (i := 2) rfl 2 rfl dX9_take_14 ?_
    refine vv_iconst (pc := 15) X dX9_take_15 ?_
    refine vv_rcv (fun b8 t9 c9 fs9 e9 g9 k9 => ?_)
    cases List.mem_singleton.mp k9
    refine vv_callI (pc := 16) (rest := []) (by rw [e9]; rfl) (fun r8 k8 e8 => zz_callV X (m_X9_noOne (hlM X) _ _ _ _ _ _ e8) g9 rfl rfl q4015 q4017 qs125 q164 q4018 nh_X9 rfl (by decide) (by decide) (Nat.le_of_ble_eq_true rfl) dX9_take_16) (fun v6 h7 => ?_)
    refine vv_if_ne (pc := 19) (tgt := 45) X dX9_take_19 rfl ?_ ?_
    · exact vv_sub [] (by rfl) (B_X9_take_45 X _)
    · refine vv_aload_n (pc := 22) X (kf := 0) (i := 0) rfl 0 rfl dX9_take_22 ?_
      refine vv_iload_n (pc := 23) X (kf := 3) (i := 3) rfl 3 rfl dX9_take_23 ?_
      refine vv_iconst (pc := 24) X dX9_take_24 ?_
      refine vv_bipush (pc := 25) X (by decide) dX9_take_25 ?_
      refine vv_callI (pc := 27) (rest := [LR (some a0)]) (by rfl) (fun r8 k8 e8 => zz_callS X (m_X9_in (hlM X) _ _ _ _ _ _ e8) q3593 q3594 q164 q3595 nh_X9 rfl (by decide) (by decide) (Nat.le_of_ble_eq_true rfl) dX9_take_27) (fun v10 h11 => ?_)
      refine vv_if_ne (pc := 30) (tgt := 37) X dX9_take_30 rfl ?_ ?_
      · refine vv_iconst (pc := 37) X dX9_take_37 ?_
        exact B_X9_take_38 X _ _ _ _ _ _ _
      · refine vv_iconst (pc := 33) X dX9_take_33 ?_
        refine vv_goto (pc := 34) (tgt := 38) X dX9_take_34 rfl ?_
        exact B_X9_take_38 X _ _ _ _ _ _ _
theorem m_X9_take {l : Launch} (hl : l.stackTraces = false) {G : va_G} (a0 : Nat) (a1 : Int) (a2 : Int) (a3 : Int) (h : HP) : ∀ r hf, f_X9_take a0 a1 a2 a3 h = some (r, hf) → Ct l yX9_take (ws_ yX9_take cX9_take 4 (some .int)) 9 274 G h [.ref a0, .int (iI a1), .int (iI a2), .int (iI a3)] (jI r) hf :=
  zz_ofW hl (by decide +kernel) (lv := [(0, LR (some a0)), (1, LI a1), (2, LI a2), (3, LI a3)]) (by simp [lv_args, lvL, lvV, zz_rfc, zz_rfs, zz_ci, zz_cr, zz_cj, zz_cf, zz_cd]) (by simp [lg_sl, zz_rfc, zz_ci, zz_cr, zz_cj, zz_cf, zz_cd]) (fun _ X => A_X9_take X a0 a1 a2 a3 h)
-- X1_setFirm RenamedWords.setFirm(I)I
noncomputable def f_X1_setFirm (a0 : Nat) (a1 : Int) (h : HP) : Option ((Nat ⊕ Int) × HP) :=
  hbx (f_X1_firmAt a1 h) (fun q3 h4 =>
      some (.inl q3, h4)) fun _ h2 =>
  (rcv h2 (some a0) [0]).bind fun b7 =>
  hb (f_X1_copied b7 h2) fun v5 h6 =>
  (rdR h6 (some a0) [0] 0).bind fun v9 =>
  (rcv h6 v9 [1]).bind fun b12 =>
  hb (f_X2_firms b12 a1 h6) fun v10 h11 =>
  (rcv h11 (some a0) [0]).bind fun b16 =>
  hb (f_X1_made b16 v5 v10 h11) fun v14 h15 =>
  some (.inr v14, h15)
theorem A_X1_setFirm {M : hp_M} {G : va_G} {h0 : HP} (X : hp_X M G h0 "RenamedWords" "setFirm" cX1_setFirm 2 (some .int) [] 10 304) (a0 : Nat) (a1 : Int) (h : HP) : vv M G h0 2 (hp_End M G h0) xI h 0 [(0, LR (some a0)), (1, LI a1)] [] (f_X1_setFirm a0 a1 h) := by
  unfold f_X1_setFirm
  refine vv_iload_n (pc := 0) X (kf := 1) (i := 1) rfl 1 rfl dX1_setFirm_0 ?_
  refine vv_xallV (pc := 1) (rest := []) (by rfl) (fun r8 k8 e8 => zz_callS X (m_X1_firmAt (hlM X) _ _ _ _ e8) q3339 q3340 q132 q3341 nh_X1 rfl (by decide) (by decide) (Nat.le_of_ble_eq_true rfl) dX1_setFirm_1) (fun v1 h2 => ?_) (fun q3 h4 => ?_)
  · refine vv_aload_n (pc := 4) X (kf := 0) (i := 0) rfl 0 rfl dX1_setFirm_4 ?_
    refine vv_aload_n (pc := 5) X (kf := 0) (i := 0) rfl 0 rfl dX1_setFirm_5 ?_
    refine vv_rcv (fun b7 t9 c9 fs9 e8 g9 k9 => ?_)
    cases List.mem_singleton.mp k9
    refine vv_callR (pc := 6) (rest := [LR (some a0)]) (by rw [e8]; rfl) (fun r8 k8 e8 => zz_callV X (m_X1_copied (hlM X) _ _ _ _ e8) g9 rfl rfl q2119 q2121 qs23 q132 q2122 nh_X1 rfl (by decide) (by decide) (Nat.le_of_ble_eq_true rfl) dX1_setFirm_6) (fun v5 h6 => ?_)
    refine vv_aload_n (pc := 9) X (kf := 0) (i := 0) rfl 0 rfl dX1_setFirm_9 ?_
    refine vv_getR (pc := 10) X (fun _ z => by cases List.mem_singleton.mp z; exact fl_X1_35_0) dX1_setFirm_10 (fun v9 => ?_)
    refine vv_iload_n (pc := 13) X (kf := 1) (i := 1) rfl 1 rfl dX1_setFirm_13 ?_
    refine vv_rcv (fun b12 t9 c9 fs9 e13 g9 k9 => ?_)
    cases List.mem_singleton.mp k9
    refine vv_callI (pc := 14) (rest := [LR v5, LR (some a0)]) (by rw [e13]; rfl) (fun r8 k8 e8 => zz_callV X (m_X2_firms (hlM X) _ _ _ _ _ e8) g9 rfl rfl q3420 q2817 q2818 q133 q2819 nh_X2 rfl (by decide) (by decide) (Nat.le_of_ble_eq_true rfl) dX1_setFirm_14) (fun v10 h11 => ?_)
    refine vv_rcv (fun b16 t9 c9 fs9 e17 g9 k9 => ?_)
    cases List.mem_singleton.mp k9
    refine vv_callI (pc := 17) (rest := []) (by rw [e17]; rfl) (fun r8 k8 e8 => zz_callV X (m_X1_made (hlM X) _ _ _ _ _ _ e8) g9 rfl rfl q3359 q3361 qs49 q132 q3362 nh_X1 rfl (by decide) (by decide) (Nat.le_of_ble_eq_true rfl) dX1_setFirm_17) (fun v14 h15 => ?_)
    exact vv_iretI X rfl rfl dX1_setFirm_20
  · exact vvx_out X (by decide) rfl
theorem m_X1_setFirm {l : Launch} (hl : l.stackTraces = false) {G : va_G} (a0 : Nat) (a1 : Int) (h : HP) : ∀ r hf, f_X1_setFirm a0 a1 h = some (r, hf) → Ct l yX1_setFirm (ws_ yX1_setFirm cX1_setFirm 2 (some .int)) 10 304 G h [.ref a0, .int (iI a1)] (xI r) hf :=
  zz_ofW hl (by decide +kernel) (lv := [(0, LR (some a0)), (1, LI a1)]) (by simp [lv_args, lvL, lvV, zz_rfc, zz_rfs, zz_ci, zz_cr, zz_cj, zz_cf, zz_cd]) (by simp [lg_sl, zz_rfc, zz_ci, zz_cr, zz_cj, zz_cf, zz_cd]) (fun _ X => A_X1_setFirm X a0 a1 h)
-- X0_setFirm RenamedWordsLaw.setFirm(LRenamedWords;I[J)I
noncomputable def b_X0_setFirm_12 (s0 : Option Nat) (h : HP) : Option ((Int) × HP) :=
  some (1, h)
theorem B_X0_setFirm_12 {M : hp_M} {G : va_G} {h0 : HP} (X : hp_X M G h0 "RenamedWordsLaw" "setFirm" cX0_setFirm 4 (some .int) (tableOf [(0, 9, 12, 13)]) 11 333) (s0 : Option Nat) (h : HP) : vv M G h0 4 (hp_End M G h0) jI h 12 [] [LR s0] (b_X0_setFirm_12 s0 h) := by
  unfold b_X0_setFirm_12
  refine vv_astore_n (pc := 12) (lv' := [(3, LR s0)]) X (kf := 3) (i := 3) rfl (by decide) rfl dX0_setFirm_12 ?_
  refine vv_iconst (pc := 13) X dX0_setFirm_13 ?_
  exact vv_iretI X rfl rfl dX0_setFirm_14
noncomputable def f_X0_setFirm (a1 : Option Nat) (a2 : Int) (a3 : Option Nat) (h : HP) : Option ((Int) × HP) :=
  (rcv h a1 [0]).bind fun b3 =>
  hbx (f_X1_setFirm b3 a2 h) (fun q5 h6 =>
      (clsOf h6 q5).bind fun c7 =>
      if c7 = 36 then
        b_X0_setFirm_12 (some q5) h6
      else
        none) fun v1 h2 =>
  (astJ h2 a3 0 (iL v1)).bind fun h8 =>
  some (0, h8)
theorem A_X0_setFirm {M : hp_M} {G : va_G} {h0 : HP} (X : hp_X M G h0 "RenamedWordsLaw" "setFirm" cX0_setFirm 4 (some .int) (tableOf [(0, 9, 12, 13)]) 11 333) (a1 : Option Nat) (a2 : Int) (a3 : Option Nat) (h : HP) : vv M G h0 4 (hp_End M G h0) jI h 0 [(0, LR a1), (1, LI a2), (2, LR a3)] [] (f_X0_setFirm a1 a2 a3 h) := by
  unfold f_X0_setFirm
  refine vv_aload_n (pc := 0) X (kf := 2) (i := 2) rfl 2 rfl dX0_setFirm_0 ?_
  refine vv_iconst (pc := 1) X dX0_setFirm_1 ?_
  refine vv_aload_n (pc := 2) X (kf := 0) (i := 0) rfl 0 rfl dX0_setFirm_2 ?_
  refine vv_iload_n (pc := 3) X (kf := 1) (i := 1) rfl 1 rfl dX0_setFirm_3 ?_
  refine vv_rcv (fun b3 t9 c9 fs9 e4 g9 k9 => ?_)
  cases List.mem_singleton.mp k9
  refine vv_xallI (pc := 4) (rest := [LI 0, LR a3]) (by rw [e4]; rfl) (fun r8 k8 e8 => zz_callV X (m_X1_setFirm (hlM X) _ _ _ _ _ e8) g9 rfl rfl q3416 q3417 q3418 q132 q3419 nh_X1 rfl (by decide) (by decide) (Nat.le_of_ble_eq_true rfl) dX0_setFirm_4) (fun v1 h2 => ?_) (fun q5 h6 => ?_)
  · refine vv_i2l (pc := 7) X dX0_setFirm_7 ?_
    refine vv_lastore (pc := 8) X dX0_setFirm_8 (fun h8 => ?_)
    refine vv_goto (pc := 9) (tgt := 15) X dX0_setFirm_9 rfl ?_
    refine vv_iconst (pc := 15) X dX0_setFirm_15 ?_
    exact vv_iretI X rfl rfl dX0_setFirm_16
  · refine vvx_cls (fun _ c7 _ g9 => ?_)
    refine vvx_if (fun e9 => ?_) (fun _ => ?_)
    · subst e9
      refine vvx_catch X g9 rfl [] ⟨0, 9, 12, 13⟩ [] rfl (fun z hz => nomatch hz) rfl (by decide) q3013 q275 ?_
      exact vv_sub [] (by rfl) (B_X0_setFirm_12 X _ _)
    · exact vvx_none
theorem m_X0_setFirm {l : Launch} (hl : l.stackTraces = false) {G : va_G} (a1 : Option Nat) (a2 : Int) (a3 : Option Nat) (h : HP) : ∀ r hf, f_X0_setFirm a1 a2 a3 h = some (r, hf) → Ct l yX0_setFirm (wsW_ yX0_setFirm cX0_setFirm 4 (some .int) [(0, 9, 12, 13)]) 11 333 G h [va_rf a1, .int (iI a2), va_rf a3] (jI r) hf :=
  zz_ofWH hl (by decide +kernel) (lv := [(0, LR a1), (1, LI a2), (2, LR a3)]) (by simp [lv_args, lvL, lvV, zz_rfc, zz_rfs, zz_ci, zz_cr, zz_cj, zz_cf, zz_cd]) (by simp [lg_sl, zz_rfc, zz_ci, zz_cr, zz_cj, zz_cf, zz_cd]) (fun _ X => A_X0_setFirm X a1 a2 a3 h)
-- X9_setFirm RenamedWordsModel.setFirm(I)I
noncomputable def b_X9_setFirm_21 (x0 : Option Nat) (x1 : Int) (s0 : Int) (s1 : Option Nat) (h : HP) : Option ((Int) × HP) :=
  (rcv h s1 [7]).bind fun b6 =>
  hb (f_X9_fails b6 s0 1 h) fun v4 h5 =>
  iEQ v4 0
    ((rcv h5 x0 [7]).bind fun b10 =>
    hb (f_X9_holds b10 h5) fun _ h9 =>
    (rcv h9 x0 [7]).bind fun b14 =>
    hb (f_X9_firmNow b14 x1 h9) fun v12 h13 =>
    (rcv h13 x0 [7]).bind fun b18 =>
    hb (f_X9_recorded b18 v12 h13) fun v16 h17 =>
    some (v16, h17))
    (some (0, h5))
theorem B_X9_setFirm_21 {M : hp_M} {G : va_G} {h0 : HP} (X : hp_X M G h0 "RenamedWordsModel" "setFirm" cX9_setFirm 2 (some .int) [] 9 272) (x0 : Option Nat) (x1 : Int) (s0 : Int) (s1 : Option Nat) (h : HP) : vv M G h0 2 (hp_End M G h0) jI h 21 [(0, LR x0), (1, LI x1)] [LI s0, LR s1] (b_X9_setFirm_21 x0 x1 s0 s1 h) := by
  unfold b_X9_setFirm_21
  refine vv_iconst (pc := 21) X dX9_setFirm_21 ?_
  refine vv_rcv (fun b6 t9 c9 fs9 e7 g9 k9 => ?_)
  cases List.mem_singleton.mp k9
  refine vv_callI (pc := 22) (rest := []) (by rw [e7]; rfl) (fun r8 k8 e8 => zz_callV X (m_X9_fails (hlM X) _ _ _ _ _ _ e8) g9 rfl rfl q3841 q3843 qs109 q164 q3844 nh_X9 rfl (by decide) (by decide) (Nat.le_of_ble_eq_true rfl) dX9_setFirm_22) (fun v4 h5 => ?_)
  refine vv_if_eq (pc := 25) (tgt := 30) X dX9_setFirm_25 rfl ?_ ?_
  · refine vv_aload_n (pc := 30) X (kf := 0) (i := 0) rfl 0 rfl dX9_setFirm_30 ?_
    refine vv_rcv (fun b10 t9 c9 fs9 e11 g9 k9 => ?_)
    cases List.mem_singleton.mp k9
    refine vv_callV (pc := 31) (rest := []) (by rw [e11]; rfl) (fun r8 k8 e8 => zz_callV X (m_X9_holds (hlM X) _ _ _ _ e8) g9 rfl rfl q4019 q4021 qs126 q164 q4022 nh_X9 rfl (by decide) (by decide) (Nat.le_of_ble_eq_true rfl) dX9_setFirm_31) (fun v8 h9 => ?_)
    refine vv_aload_n (pc := 34) X (kf := 0) (i := 0) rfl 0 rfl dX9_setFirm_34 ?_
    refine vv_aload_n (pc := 35) X (kf := 0) (i := 0) rfl 0 rfl dX9_setFirm_35 ?_
    refine vv_iload_n (pc := 36) X (kf := 1) (i := 1) rfl 1 rfl dX9_setFirm_36 ?_
    refine vv_rcv (fun b14 t9 c9 fs9 e15 g9 k9 => ?_)
    cases List.mem_singleton.mp k9
    refine vv_callI (pc := 37) (rest := [LR x0]) (by rw [e15]; rfl) (fun r8 k8 e8 => zz_callV X (m_X9_firmNow (hlM X) _ _ _ _ _ e8) g9 rfl rfl q3833 q3835 qs108 q164 q3836 nh_X9 rfl (by decide) (by decide) (Nat.le_of_ble_eq_true rfl) dX9_setFirm_37) (fun v12 h13 => ?_)
    refine vv_rcv (fun b18 t9 c9 fs9 e19 g9 k9 => ?_)
    cases List.mem_singleton.mp k9
    refine vv_callI (pc := 40) (rest := []) (by rw [e19]; rfl) (fun r8 k8 e8 => zz_callV X (m_X9_recorded (hlM X) _ _ _ _ _ e8) g9 rfl rfl q4023 q4025 qs127 q164 q4026 nh_X9 rfl (by decide) (by decide) (Nat.le_of_ble_eq_true rfl) dX9_setFirm_40) (fun v16 h17 => ?_)
    exact vv_iretI X rfl rfl dX9_setFirm_43
  · refine vv_iconst (pc := 28) X dX9_setFirm_28 ?_
    exact vv_iretI X rfl rfl dX9_setFirm_29
noncomputable def f_X9_setFirm (a0 : Nat) (a1 : Int) (h : HP) : Option ((Int) × HP) :=
  (wrI h (some a0) [7] 7 0).bind fun h1 =>
  hb (f_X9_in a1 0 26 h1) fun v2 h3 =>
  iEQ v2 0
    (b_X9_setFirm_21 (some a0) a1 1 (some a0) h3)
    (b_X9_setFirm_21 (some a0) a1 0 (some a0) h3)
theorem A_X9_setFirm {M : hp_M} {G : va_G} {h0 : HP} (X : hp_X M G h0 "RenamedWordsModel" "setFirm" cX9_setFirm 2 (some .int) [] 9 272) (a0 : Nat) (a1 : Int) (h : HP) : vv M G h0 2 (hp_End M G h0) jI h 0 [(0, LR (some a0)), (1, LI a1)] [] (f_X9_setFirm a0 a1 h) := by
  unfold f_X9_setFirm
  refine vv_aload_n (pc := 0) X (kf := 0) (i := 0) rfl 0 rfl dX9_setFirm_0 ?_
  refine vv_iconst (pc := 1) X dX9_setFirm_1 ?_
  refine vv_putI (pc := 2) (fin := false) X (fun _ z => by cases List.mem_singleton.mp z; exact fl_X9_69_7) (fun z => nomatch z) (fun z => nomatch z) dX9_setFirm_2 (fun h1 => ?_)
  refine vv_aload_n (pc := 5) X (kf := 0) (i := 0) rfl 0 rfl dX9_setFirm_5 ?_
  refine vv_iload_n (pc := 6) X (kf := 1) (i := 1) rfl 1 rfl dX9_setFirm_6 ?_
  refine vv_iconst (pc := 7) X dX9_setFirm_7 ?_
  refine vv_bipush (pc := 8) X (by decide) dX9_setFirm_8 ?_
  refine vv_callI (pc := 10) (rest := [LR (some a0)]) (by rfl) (fun r8 k8 e8 => zz_callS X (m_X9_in (hlM X) _ _ _ _ _ _ e8) q3593 q3594 q164 q3595 nh_X9 rfl (by decide) (by decide) (Nat.le_of_ble_eq_true rfl) dX9_setFirm_10) (fun v2 h3 => ?_)
  refine vv_if_ne (pc := 13) (tgt := 20) X dX9_setFirm_13 rfl ?_ ?_
  · refine vv_iconst (pc := 20) X dX9_setFirm_20 ?_
    exact B_X9_setFirm_21 X _ _ _ _ _
  · refine vv_iconst (pc := 16) X dX9_setFirm_16 ?_
    refine vv_goto (pc := 17) (tgt := 21) X dX9_setFirm_17 rfl ?_
    exact B_X9_setFirm_21 X _ _ _ _ _
theorem m_X9_setFirm {l : Launch} (hl : l.stackTraces = false) {G : va_G} (a0 : Nat) (a1 : Int) (h : HP) : ∀ r hf, f_X9_setFirm a0 a1 h = some (r, hf) → Ct l yX9_setFirm (ws_ yX9_setFirm cX9_setFirm 2 (some .int)) 9 272 G h [.ref a0, .int (iI a1)] (jI r) hf :=
  zz_ofW hl (by decide +kernel) (lv := [(0, LR (some a0)), (1, LI a1)]) (by simp [lv_args, lvL, lvV, zz_rfc, zz_rfs, zz_ci, zz_cr, zz_cj, zz_cf, zz_cd]) (by simp [lg_sl, zz_rfc, zz_ci, zz_cr, zz_cj, zz_cf, zz_cd]) (fun _ X => A_X9_setFirm X a0 a1 h)
-- J19_stringSize java/lang/Integer.stringSize(I)I
noncomputable def c_J19_stringSize_16 (r16 : Int → Int → Int → Int → HP → Option ((Int) × HP)) (x0 : Int) (x1 : Int) (x2 : Int) (x3 : Int) (h : HP) : Option ((Int) × HP) :=
  iLE 10 x3
    (some ((10 + x1), h))
    (iLE x0 x2
      (r16 x0 x1 (10 * x2) (x3 + 1) h)
      (some ((x3 + x1), h)))
noncomputable def b_J19_stringSize_16 : Int → Int → Int → Int → HP → Option ((Int) × HP) := fx (fun _ _ _ _ _ => none) (c_J19_stringSize_16) FU
theorem C_J19_stringSize_16 {M : hp_M} {G : va_G} {h0 : HP} (X : hp_X M G h0 "java/lang/Integer" "stringSize" cJ19_stringSize 4 (some .int) [] 0 0) (r16 : Int → Int → Int → Int → HP → Option ((Int) × HP)) (hr16 : ∀ (y0 : Int) (y1 : Int) (y2 : Int) (y3 : Int) (h : HP), vv M G h0 4 (hp_End M G h0) jI h 16 [(0, LI y0), (1, LI y1), (2, LI y2), (3, LI y3)] [] (r16 y0 y1 y2 y3 h)) (x0 : Int) (x1 : Int) (x2 : Int) (x3 : Int) (h : HP) : vv M G h0 4 (hp_End M G h0) jI h 16 [(0, LI x0), (1, LI x1), (2, LI x2), (3, LI x3)] [] (c_J19_stringSize_16 r16 x0 x1 x2 x3 h) := by
  unfold c_J19_stringSize_16
  refine vv_iload_n (pc := 16) X (kf := 3) (i := 3) rfl 3 rfl dJ19_stringSize_16 ?_
  refine vv_bipush (pc := 17) X (by decide) dJ19_stringSize_17 ?_
  refine vv_icmp_ge (pc := 19) (tgt := 42) X dJ19_stringSize_19 rfl ?_ ?_
  · refine vv_bipush (pc := 42) X (by decide) dJ19_stringSize_42 ?_
    refine vv_iload_n (pc := 44) X (kf := 1) (i := 1) rfl 1 rfl dJ19_stringSize_44 ?_
    refine vv_iadd (pc := 45) X dJ19_stringSize_45 ?_
    exact vv_iretI X rfl rfl dJ19_stringSize_46
  · refine vv_iload_n (pc := 22) X (kf := 0) (i := 0) rfl 0 rfl dJ19_stringSize_22 ?_
    refine vv_iload_n (pc := 23) X (kf := 2) (i := 2) rfl 2 rfl dJ19_stringSize_23 ?_
    refine vv_icmp_le (pc := 24) (tgt := 31) X dJ19_stringSize_24 rfl ?_ ?_
    · refine vv_bipush (pc := 31) X (by decide) dJ19_stringSize_31 ?_
      refine vv_iload_n (pc := 33) X (kf := 2) (i := 2) rfl 2 rfl dJ19_stringSize_33 ?_
      refine vv_imul (pc := 34) X dJ19_stringSize_34 ?_
      refine vv_istore_n (pc := 35) (lv' := [(2, LI (10 * x2)), (0, LI x0), (1, LI x1), (3, LI x3)]) X (kf := 2) (i := 2) rfl (by decide) rfl dJ19_stringSize_35 ?_
      refine vv_iinc (pc := 36) (lv' := [(3, LI (x3 + 1)), (2, LI (10 * x2)), (0, LI x0), (1, LI x1)]) X 3 rfl (by decide) rfl dJ19_stringSize_36 ?_
      refine vv_goto (pc := 39) (tgt := 16) X dJ19_stringSize_39 rfl ?_
      exact vv_sub [2, 3, 1, 0] (by rfl) (hr16 _ _ _ _ _)
    · refine vv_iload_n (pc := 27) X (kf := 3) (i := 3) rfl 3 rfl dJ19_stringSize_27 ?_
      refine vv_iload_n (pc := 28) X (kf := 1) (i := 1) rfl 1 rfl dJ19_stringSize_28 ?_
      refine vv_iadd (pc := 29) X dJ19_stringSize_29 ?_
      exact vv_iretI X rfl rfl dJ19_stringSize_30
theorem B_J19_stringSize_16 {M : hp_M} {G : va_G} {h0 : HP} (X : hp_X M G h0 "java/lang/Integer" "stringSize" cJ19_stringSize 4 (some .int) [] 0 0) : ∀ (x0 : Int) (x1 : Int) (x2 : Int) (x3 : Int) (h : HP), vv M G h0 4 (hp_End M G h0) jI h 16 [(0, LI x0), (1, LI x1), (2, LI x2), (3, LI x3)] [] (b_J19_stringSize_16 x0 x1 x2 x3 h) := by
  unfold b_J19_stringSize_16
  generalize FU = n
  induction n with
  | zero => intro x0 x1 x2 x3 h; exact vv_none
  | succ n ih => exact C_J19_stringSize_16 X _ ih
noncomputable def b_J19_stringSize_11 (x0 : Int) (x1 : Int) (h : HP) : Option ((Int) × HP) :=
  b_J19_stringSize_16 x0 x1 (-10) 1 h
theorem B_J19_stringSize_11 {M : hp_M} {G : va_G} {h0 : HP} (X : hp_X M G h0 "java/lang/Integer" "stringSize" cJ19_stringSize 4 (some .int) [] 0 0) (x0 : Int) (x1 : Int) (h : HP) : vv M G h0 4 (hp_End M G h0) jI h 11 [(0, LI x0), (1, LI x1)] [] (b_J19_stringSize_11 x0 x1 h) := by
  unfold b_J19_stringSize_11
  refine vv_bipush (pc := 11) X (by decide) dJ19_stringSize_11 ?_
  refine vv_istore_n (pc := 13) (lv' := [(2, LI (-10)), (0, LI x0), (1, LI x1)]) X (kf := 2) (i := 2) rfl (by decide) rfl dJ19_stringSize_13 ?_
  refine vv_iconst (pc := 14) X dJ19_stringSize_14 ?_
  refine vv_istore_n (pc := 15) (lv' := [(3, LI 1), (2, LI (-10)), (0, LI x0), (1, LI x1)]) X (kf := 3) (i := 3) rfl (by decide) rfl dJ19_stringSize_15 ?_
  exact vv_sub [2, 3, 1, 0] (by rfl) (B_J19_stringSize_16 X _ _ _ _ _)
noncomputable def f_J19_stringSize (a1 : Int) (h : HP) : Option ((Int) × HP) :=
  iLT a1 0
    (b_J19_stringSize_11 a1 1 h)
    (b_J19_stringSize_11 (-a1) 0 h)
theorem A_J19_stringSize {M : hp_M} {G : va_G} {h0 : HP} (X : hp_X M G h0 "java/lang/Integer" "stringSize" cJ19_stringSize 4 (some .int) [] 0 0) (a1 : Int) (h : HP) : vv M G h0 4 (hp_End M G h0) jI h 0 [(0, LI a1)] [] (f_J19_stringSize a1 h) := by
  unfold f_J19_stringSize
  refine vv_iconst (pc := 0) X dJ19_stringSize_0 ?_
  refine vv_istore_n (pc := 1) (lv' := [(1, LI 1), (0, LI a1)]) X (kf := 1) (i := 1) rfl (by decide) rfl dJ19_stringSize_1 ?_
  refine vv_iload_n (pc := 2) X (kf := 0) (i := 0) rfl 1 rfl dJ19_stringSize_2 ?_
  refine vv_if_lt (pc := 3) (tgt := 11) X dJ19_stringSize_3 rfl ?_ ?_
  · exact vv_sub [1, 0] (by rfl) (B_J19_stringSize_11 X _ _ _)
  · refine vv_iconst (pc := 6) X dJ19_stringSize_6 ?_
    refine vv_istore_n (pc := 7) (lv' := [(1, LI 0), (0, LI a1)]) X (kf := 1) (i := 1) rfl (by decide) rfl dJ19_stringSize_7 ?_
    refine vv_iload_n (pc := 8) X (kf := 0) (i := 0) rfl 1 rfl dJ19_stringSize_8 ?_
    refine vv_ineg (pc := 9) X dJ19_stringSize_9 ?_
    refine vv_istore_n (pc := 10) (lv' := [(0, LI (-a1)), (1, LI 0)]) X (kf := 0) (i := 0) rfl (by decide) rfl dJ19_stringSize_10 ?_
    exact B_J19_stringSize_11 X _ _ _
theorem m_J19_stringSize {l : Launch} (hl : l.stackTraces = false) {G : va_G} (a1 : Int) (h : HP) : ∀ r hf, f_J19_stringSize a1 h = some (r, hf) → Ct l yJ19_stringSize (ws_ yJ19_stringSize cJ19_stringSize 4 (some .int)) 0 0 G h [.int (iI a1)] (jI r) hf :=
  zz_ofW hl (by decide +kernel) (lv := [(0, LI a1)]) (by simp [lv_args, lvL, lvV, zz_rfc, zz_rfs, zz_ci, zz_cr, zz_cj, zz_cf, zz_cd]) (by simp [lg_sl, zz_rfc, zz_ci, zz_cr, zz_cj, zz_cf, zz_cd]) (fun _ X => A_J19_stringSize X a1 h)
-- J19_getChars java/lang/Integer.getChars(II[B)I
noncomputable def b_J19_getChars_118 (x5 : Int) (h : HP) : Option ((Int) × HP) :=
  some (x5, h)
theorem B_J19_getChars_118 {M : hp_M} {G : va_G} {h0 : HP} (X : hp_X M G h0 "java/lang/Integer" "getChars" cJ19_getChars 7 (some .int) [] 0 0) (x5 : Int) (h : HP) : vv M G h0 7 (hp_End M G h0) jI h 118 [(5, LI x5)] [] (b_J19_getChars_118 x5 h) := by
  unfold b_J19_getChars_118
  refine vv_iload (pc := 118) X 0 rfl dJ19_getChars_118 ?_
  exact vv_iretI X rfl rfl dJ19_getChars_120
noncomputable def b_J19_getChars_104 (x2 : Option Nat) (x5 : Int) (x6 : Int) (h : HP) : Option ((Int) × HP) :=
  iEQ x6 0
    (b_J19_getChars_118 x5 h)
    ((astB h x2 (x5 + (-1)) 45).bind fun h3 =>
    b_J19_getChars_118 (x5 + (-1)) h3)
theorem B_J19_getChars_104 {M : hp_M} {G : va_G} {h0 : HP} (X : hp_X M G h0 "java/lang/Integer" "getChars" cJ19_getChars 7 (some .int) [] 0 0) (x2 : Option Nat) (x5 : Int) (x6 : Int) (h : HP) : vv M G h0 7 (hp_End M G h0) jI h 104 [(2, LR x2), (5, LI x5), (6, LI x6)] [] (b_J19_getChars_104 x2 x5 x6 h) := by
  unfold b_J19_getChars_104
  refine vv_iload (pc := 104) X 2 rfl dJ19_getChars_104 ?_
  refine vv_if_eq (pc := 106) (tgt := 118) X dJ19_getChars_106 rfl ?_ ?_
  · exact vv_sub [1] (by rfl) (B_J19_getChars_118 X _ _)
  · refine vv_aload_n (pc := 109) X (kf := 2) (i := 2) rfl 0 rfl dJ19_getChars_109 ?_
    refine vv_iinc (pc := 110) (lv' := [(5, LI (x5 + (-1))), (2, LR x2), (6, LI x6)]) X 1 rfl (by decide) rfl dJ19_getChars_110 ?_
    refine vv_iload (pc := 113) X 0 rfl dJ19_getChars_113 ?_
    refine vv_bipush (pc := 115) X (by decide) dJ19_getChars_115 ?_
    refine vv_bastore (pc := 117) X dJ19_getChars_117 (fun h3 => ?_)
    exact vv_sub [0] (by rfl) (B_J19_getChars_118 X _ _)
noncomputable def c_J19_getChars_22 (r22 : Int → Option Nat → Int → Int → HP → Option ((Int) × HP)) (x0 : Int) (x2 : Option Nat) (x5 : Int) (x6 : Int) (h : HP) : Option ((Int) × HP) :=
  iLT (-100) x0
    ((aldI h .byte (hp_c h 105) (-x0)).bind fun v1 =>
    (astB h x2 (x5 + (-1)) v1).bind fun h2 =>
    iLE (-9) x0
      (b_J19_getChars_104 x2 (x5 + (-1)) x6 h2)
      ((aldI h2 .byte (hp_c h2 106) (-x0)).bind fun v4 =>
      (astB h2 x2 ((x5 + (-1)) + (-1)) v4).bind fun h5 =>
      b_J19_getChars_104 x2 ((x5 + (-1)) + (-1)) x6 h5))
    ((iDV x0 100).bind fun v6 =>
    (aldI h .byte (hp_c h 105) ((v6 * 100) - x0)).bind fun v7 =>
    (astB h x2 (x5 + (-1)) v7).bind fun h8 =>
    (aldI h8 .byte (hp_c h8 106) ((v6 * 100) - x0)).bind fun v9 =>
    (astB h8 x2 ((x5 + (-1)) + (-1)) v9).bind fun h10 =>
    r22 v6 x2 ((x5 + (-1)) + (-1)) x6 h10)
noncomputable def b_J19_getChars_22 : Int → Option Nat → Int → Int → HP → Option ((Int) × HP) := fx (fun _ _ _ _ _ => none) (c_J19_getChars_22) FU
theorem C_J19_getChars_22 {M : hp_M} {G : va_G} {h0 : HP} (X : hp_X M G h0 "java/lang/Integer" "getChars" cJ19_getChars 7 (some .int) [] 0 0) (r22 : Int → Option Nat → Int → Int → HP → Option ((Int) × HP)) (hr22 : ∀ (y0 : Int) (y2 : Option Nat) (y5 : Int) (y6 : Int) (h : HP), vv M G h0 7 (hp_End M G h0) jI h 22 [(0, LI y0), (2, LR y2), (5, LI y5), (6, LI y6)] [] (r22 y0 y2 y5 y6 h)) (x0 : Int) (x2 : Option Nat) (x5 : Int) (x6 : Int) (h : HP) : vv M G h0 7 (hp_End M G h0) jI h 22 [(0, LI x0), (2, LR x2), (5, LI x5), (6, LI x6)] [] (c_J19_getChars_22 r22 x0 x2 x5 x6 h) := by
  unfold c_J19_getChars_22
  refine vv_iload_n (pc := 22) X (kf := 0) (i := 0) rfl 0 rfl dJ19_getChars_22 ?_
  refine vv_bipush (pc := 23) X (by decide) dJ19_getChars_23 ?_
  refine vv_icmp_gt (pc := 25) (tgt := 72) X dJ19_getChars_25 rfl ?_ ?_
  · refine vv_aload_n (pc := 72) X (kf := 2) (i := 2) rfl 1 rfl dJ19_getChars_72 ?_
    refine vv_iinc (pc := 73) (lv' := [(5, LI (x5 + (-1))), (0, LI x0), (2, LR x2), (6, LI x6)]) X 2 rfl (by decide) rfl dJ19_getChars_73 ?_
    refine vv_iload (pc := 76) X 0 rfl dJ19_getChars_76 ?_
    refine vv_gets (pc := 78) (w := LR (hp_c h 105)) X (gs_6 _) rfl q484 dJ19_getChars_78 ?_
    refine vv_iload_n (pc := 81) X (kf := 0) (i := 0) rfl 1 rfl dJ19_getChars_81 ?_
    refine vv_ineg (pc := 82) X dJ19_getChars_82 ?_
    refine vv_baload (pc := 83) X dJ19_getChars_83 (fun v1 => ?_)
    refine vv_bastore (pc := 84) X dJ19_getChars_84 (fun h2 => ?_)
    refine vv_iload_n (pc := 85) X (kf := 0) (i := 0) rfl 1 rfl dJ19_getChars_85 ?_
    refine vv_bipush (pc := 86) X (by decide) dJ19_getChars_86 ?_
    refine vv_icmp_ge (pc := 88) (tgt := 104) X dJ19_getChars_88 rfl ?_ ?_
    · exact vv_sub [2, 0, 3] (by rfl) (B_J19_getChars_104 X _ _ _ _)
    · refine vv_aload_n (pc := 91) X (kf := 2) (i := 2) rfl 2 rfl dJ19_getChars_91 ?_
      refine vv_iinc (pc := 92) (lv' := [(5, LI ((x5 + (-1)) + (-1))), (0, LI x0), (2, LR x2), (6, LI x6)]) X 0 rfl (by decide) rfl dJ19_getChars_92 ?_
      refine vv_iload (pc := 95) X 0 rfl dJ19_getChars_95 ?_
      refine vv_gets (pc := 97) (w := LR (hp_c h2 106)) X (gs_7 _) rfl q486 dJ19_getChars_97 ?_
      refine vv_iload_n (pc := 100) X (kf := 0) (i := 0) rfl 1 rfl dJ19_getChars_100 ?_
      refine vv_ineg (pc := 101) X dJ19_getChars_101 ?_
      refine vv_baload (pc := 102) X dJ19_getChars_102 (fun v4 => ?_)
      refine vv_bastore (pc := 103) X dJ19_getChars_103 (fun h5 => ?_)
      exact vv_sub [2, 0, 3] (by rfl) (B_J19_getChars_104 X _ _ _ _)
  · refine vv_iload_n (pc := 28) X (kf := 0) (i := 0) rfl 0 rfl dJ19_getChars_28 ?_
    refine vv_bipush (pc := 29) X (by decide) dJ19_getChars_29 ?_
    refine vv_idiv (pc := 31) X dJ19_getChars_31 (fun v6 => ?_)
    refine vv_istore_n (pc := 32) (lv' := [(3, LI v6), (0, LI x0), (2, LR x2), (5, LI x5), (6, LI x6)]) X (kf := 3) (i := 3) rfl (by decide) rfl dJ19_getChars_32 ?_
    refine vv_iload_n (pc := 33) X (kf := 3) (i := 3) rfl 0 rfl dJ19_getChars_33 ?_
    refine vv_bipush (pc := 34) X (by decide) dJ19_getChars_34 ?_
    refine vv_imul (pc := 36) X dJ19_getChars_36 ?_
    refine vv_iload_n (pc := 37) X (kf := 0) (i := 0) rfl 1 rfl dJ19_getChars_37 ?_
    refine vv_isub (pc := 38) X dJ19_getChars_38 ?_
    refine vv_istore (pc := 39) (lv' := [(4, LI ((v6 * 100) - x0)), (3, LI v6), (0, LI x0), (2, LR x2), (5, LI x5), (6, LI x6)]) X (by decide) rfl dJ19_getChars_39 ?_
    refine vv_iload_n (pc := 41) X (kf := 3) (i := 3) rfl 1 rfl dJ19_getChars_41 ?_
    refine vv_istore_n (pc := 42) (lv' := [(0, LI v6), (4, LI ((v6 * 100) - x0)), (3, LI v6), (2, LR x2), (5, LI x5), (6, LI x6)]) X (kf := 0) (i := 0) rfl (by decide) rfl dJ19_getChars_42 ?_
    refine vv_aload_n (pc := 43) X (kf := 2) (i := 2) rfl 3 rfl dJ19_getChars_43 ?_
    refine vv_iinc (pc := 44) (lv' := [(5, LI (x5 + (-1))), (0, LI v6), (4, LI ((v6 * 100) - x0)), (3, LI v6), (2, LR x2), (6, LI x6)]) X 4 rfl (by decide) rfl dJ19_getChars_44 ?_
    refine vv_iload (pc := 47) X 0 rfl dJ19_getChars_47 ?_
    refine vv_gets (pc := 49) (w := LR (hp_c h 105)) X (gs_6 _) rfl q484 dJ19_getChars_49 ?_
    refine vv_iload (pc := 52) X 2 rfl dJ19_getChars_52 ?_
    refine vv_baload (pc := 54) X dJ19_getChars_54 (fun v7 => ?_)
    refine vv_bastore (pc := 55) X dJ19_getChars_55 (fun h8 => ?_)
    refine vv_aload_n (pc := 56) X (kf := 2) (i := 2) rfl 4 rfl dJ19_getChars_56 ?_
    refine vv_iinc (pc := 57) (lv' := [(5, LI ((x5 + (-1)) + (-1))), (0, LI v6), (4, LI ((v6 * 100) - x0)), (3, LI v6), (2, LR x2), (6, LI x6)]) X 0 rfl (by decide) rfl dJ19_getChars_57 ?_
    refine vv_iload (pc := 60) X 0 rfl dJ19_getChars_60 ?_
    refine vv_gets (pc := 62) (w := LR (hp_c h8 106)) X (gs_7 _) rfl q486 dJ19_getChars_62 ?_
    refine vv_iload (pc := 65) X 2 rfl dJ19_getChars_65 ?_
    refine vv_baload (pc := 67) X dJ19_getChars_67 (fun v9 => ?_)
    refine vv_bastore (pc := 68) X dJ19_getChars_68 (fun h10 => ?_)
    refine vv_goto (pc := 69) (tgt := 22) X dJ19_getChars_69 rfl ?_
    exact vv_sub [1, 4, 0, 5] (by rfl) (hr22 _ _ _ _ _)
theorem B_J19_getChars_22 {M : hp_M} {G : va_G} {h0 : HP} (X : hp_X M G h0 "java/lang/Integer" "getChars" cJ19_getChars 7 (some .int) [] 0 0) : ∀ (x0 : Int) (x2 : Option Nat) (x5 : Int) (x6 : Int) (h : HP), vv M G h0 7 (hp_End M G h0) jI h 22 [(0, LI x0), (2, LR x2), (5, LI x5), (6, LI x6)] [] (b_J19_getChars_22 x0 x2 x5 x6 h) := by
  unfold b_J19_getChars_22
  generalize FU = n
  induction n with
  | zero => intro x0 x2 x5 x6 h; exact vv_none
  | succ n ih => exact C_J19_getChars_22 X _ ih
noncomputable def b_J19_getChars_12 (x0 : Int) (x2 : Option Nat) (x5 : Int) (s0 : Int) (h : HP) : Option ((Int) × HP) :=
  iEQ s0 0
    (b_J19_getChars_22 (-x0) x2 x5 s0 h)
    (b_J19_getChars_22 x0 x2 x5 s0 h)
theorem B_J19_getChars_12 {M : hp_M} {G : va_G} {h0 : HP} (X : hp_X M G h0 "java/lang/Integer" "getChars" cJ19_getChars 7 (some .int) [] 0 0) (x0 : Int) (x2 : Option Nat) (x5 : Int) (s0 : Int) (h : HP) : vv M G h0 7 (hp_End M G h0) jI h 12 [(0, LI x0), (2, LR x2), (5, LI x5)] [LI s0] (b_J19_getChars_12 x0 x2 x5 s0 h) := by
  unfold b_J19_getChars_12
  refine vv_istore (pc := 12) (lv' := [(6, LI s0), (0, LI x0), (2, LR x2), (5, LI x5)]) X (by decide) rfl dJ19_getChars_12 ?_
  refine vv_iload (pc := 14) X 0 rfl dJ19_getChars_14 ?_
  refine vv_if_ne (pc := 16) (tgt := 22) X dJ19_getChars_16 rfl ?_ ?_
  · exact vv_sub [1, 2, 3, 0] (by rfl) (B_J19_getChars_22 X _ _ _ _ _)
  · refine vv_iload_n (pc := 19) X (kf := 0) (i := 0) rfl 1 rfl dJ19_getChars_19 ?_
    refine vv_ineg (pc := 20) X dJ19_getChars_20 ?_
    refine vv_istore_n (pc := 21) (lv' := [(0, LI (-x0)), (6, LI s0), (2, LR x2), (5, LI x5)]) X (kf := 0) (i := 0) rfl (by decide) rfl dJ19_getChars_21 ?_
    exact vv_sub [0, 2, 3, 1] (by rfl) (B_J19_getChars_22 X _ _ _ _ _)
noncomputable def f_J19_getChars (a1 : Int) (a2 : Int) (a3 : Option Nat) (h : HP) : Option ((Int) × HP) :=
  iLE 0 a1
    (b_J19_getChars_12 a1 a3 a2 0 h)
    (b_J19_getChars_12 a1 a3 a2 1 h)
theorem A_J19_getChars {M : hp_M} {G : va_G} {h0 : HP} (X : hp_X M G h0 "java/lang/Integer" "getChars" cJ19_getChars 7 (some .int) [] 0 0) (a1 : Int) (a2 : Int) (a3 : Option Nat) (h : HP) : vv M G h0 7 (hp_End M G h0) jI h 0 [(0, LI a1), (1, LI a2), (2, LR a3)] [] (f_J19_getChars a1 a2 a3 h) := by
  unfold f_J19_getChars
  refine vv_iload_n (pc := 0) X (kf := 1) (i := 1) rfl 1 rfl dJ19_getChars_0 ?_
  refine vv_istore (pc := 1) (lv' := [(5, LI a2), (0, LI a1), (1, LI a2), (2, LR a3)]) X (by decide) rfl dJ19_getChars_1 ?_
  refine vv_iload_n (pc := 3) X (kf := 0) (i := 0) rfl 1 rfl dJ19_getChars_3 ?_
  refine vv_if_ge (pc := 4) (tgt := 11) X dJ19_getChars_4 rfl ?_ ?_
  · refine vv_iconst (pc := 11) X dJ19_getChars_11 ?_
    exact vv_sub [1, 3, 0] (by rfl) (B_J19_getChars_12 X _ _ _ _ _)
  · refine vv_iconst (pc := 7) X dJ19_getChars_7 ?_
    refine vv_goto (pc := 8) (tgt := 12) X dJ19_getChars_8 rfl ?_
    exact vv_sub [1, 3, 0] (by rfl) (B_J19_getChars_12 X _ _ _ _ _)
theorem m_J19_getChars {l : Launch} (hl : l.stackTraces = false) {G : va_G} (a1 : Int) (a2 : Int) (a3 : Option Nat) (h : HP) : ∀ r hf, f_J19_getChars a1 a2 a3 h = some (r, hf) → Ct l yJ19_getChars (ws_ yJ19_getChars cJ19_getChars 7 (some .int)) 0 0 G h [.int (iI a1), .int (iI a2), va_rf a3] (jI r) hf :=
  zz_ofW hl (by decide +kernel) (lv := [(0, LI a1), (1, LI a2), (2, LR a3)]) (by simp [lv_args, lvL, lvV, zz_rfc, zz_rfs, zz_ci, zz_cr, zz_cj, zz_cf, zz_cd]) (by simp [lg_sl, zz_rfc, zz_ci, zz_cr, zz_cj, zz_cf, zz_cd]) (fun _ X => A_J19_getChars X a1 a2 a3 h)
-- J9_append_2 java/lang/AbstractStringBuilder.append(I)Ljava/lang/AbstractStringBuilder;
noncomputable def f_J9_append_2 (a0 : Nat) (a1 : Int) (h : HP) : Option ((Option Nat) × HP) :=
  (rdI h (some a0) [25] 3).bind fun v1 =>
  hb (f_J19_stringSize a1 h) fun v2 h3 =>
  (rcv h3 (some a0) [25]).bind fun b6 =>
  hb (f_J9_ensureCapacityInternal b6 (v1 + v2) h3) fun _ h5 =>
  (rcv h5 (some a0) [25]).bind fun b10 =>
  hb (f_J9_isLatin1 b10 h5) fun v8 h9 =>
  iEQ v8 0
    ((rdR h9 (some a0) [25] 0).bind fun v12 =>
    none)
    ((rdR h9 (some a0) [25] 0).bind fun v13 =>
    hb (f_J19_getChars a1 (v1 + v2) v13 h9) fun v14 h15 =>
    (wrI h15 (some a0) [25] 3 (v1 + v2)).bind fun h16 =>
    some ((some a0), h16))
theorem A_J9_append_2 {M : hp_M} {G : va_G} {h0 : HP} (X : hp_X M G h0 "java/lang/AbstractStringBuilder" "append" cJ9_append_2 4 (some (.object "java/lang/AbstractStringBuilder")) [] 4 180) (a0 : Nat) (a1 : Int) (h : HP) : vv M G h0 4 (hp_End M G h0) jR h 0 [(0, LR (some a0)), (1, LI a1)] [] (f_J9_append_2 a0 a1 h) := by
  unfold f_J9_append_2
  refine vv_aload_n (pc := 0) X (kf := 0) (i := 0) rfl 0 rfl dJ9_append_2_0 ?_
  refine vv_getI (pc := 1) X (fun _ z => by cases List.mem_singleton.mp z; exact fl_J9_79_25) dJ9_append_2_1 (fun v1 => ?_)
  refine vv_istore_n (pc := 4) (lv' := [(2, LI v1), (0, LR (some a0)), (1, LI a1)]) X (kf := 2) (i := 2) rfl (by decide) rfl dJ9_append_2_4 ?_
  refine vv_iload_n (pc := 5) X (kf := 2) (i := 2) rfl 0 rfl dJ9_append_2_5 ?_
  refine vv_iload_n (pc := 6) X (kf := 1) (i := 1) rfl 2 rfl dJ9_append_2_6 ?_
  refine vv_callI (pc := 7) (rest := [LI v1]) (by rfl) (fun r8 k8 e8 => zz_callS X (m_J19_stringSize (hlM X) _ _ _ _ e8) q478 q479 q155 q480 nh_J19 rfl (by decide) (by decide) (Nat.le_of_ble_eq_true rfl) dJ9_append_2_7) (fun v2 h3 => ?_)
  refine vv_iadd (pc := 10) X dJ9_append_2_10 ?_
  refine vv_istore_n (pc := 11) (lv' := [(3, LI (v1 + v2)), (2, LI v1), (0, LR (some a0)), (1, LI a1)]) X (kf := 3) (i := 3) rfl (by decide) rfl dJ9_append_2_11 ?_
  refine vv_aload_n (pc := 12) X (kf := 0) (i := 0) rfl 2 rfl dJ9_append_2_12 ?_
  refine vv_iload_n (pc := 13) X (kf := 3) (i := 3) rfl 0 rfl dJ9_append_2_13 ?_
  refine vv_rcv (fun b6 t9 c9 fs9 e7 g9 k9 => ?_)
  cases List.mem_singleton.mp k9
  refine vv_callV (pc := 14) (rest := []) (by rw [e7]; rfl) (fun r8 k8 e8 => zz_callP X (m_J9_ensureCapacityInternal (hlM X) _ _ _ _ _ e8) g9 rfl q362 q364 q363 q512 rfl q144 q365 nh_J9 rfl (by decide) (by decide) (Nat.le_of_ble_eq_true rfl) dJ9_append_2_14) (fun v4 h5 => ?_)
  refine vv_aload_n (pc := 17) X (kf := 0) (i := 0) rfl 2 rfl dJ9_append_2_17 ?_
  refine vv_rcv (fun b10 t9 c9 fs9 e11 g9 k9 => ?_)
  cases List.mem_singleton.mp k9
  refine vv_callI (pc := 18) (rest := []) (by rw [e11]; rfl) (fun r8 k8 e8 => zz_callW X (m_J9_isLatin1 (hlM X) _ _ _ _ e8) g9 rfl q397 q398 q400 q144 q401 nh_J9 rfl (by decide) (by decide) (Nat.le_of_ble_eq_true rfl) dJ9_append_2_18) (fun v8 h9 => ?_)
  refine vv_if_eq (pc := 21) (tgt := 37) X dJ9_append_2_21 rfl ?_ ?_
  · refine vv_iload_n (pc := 37) X (kf := 1) (i := 1) rfl 3 rfl dJ9_append_2_37 ?_
    refine vv_iload_n (pc := 38) X (kf := 2) (i := 2) rfl 1 rfl dJ9_append_2_38 ?_
    refine vv_iload_n (pc := 39) X (kf := 3) (i := 3) rfl 0 rfl dJ9_append_2_39 ?_
    refine vv_aload_n (pc := 40) X (kf := 0) (i := 0) rfl 2 rfl dJ9_append_2_40 ?_
    refine vv_getR (pc := 41) X (fun _ z => by cases List.mem_singleton.mp z; exact fl_J9_15_25) dJ9_append_2_41 (fun v12 => ?_)
    exact vv_none
  · refine vv_iload_n (pc := 24) X (kf := 1) (i := 1) rfl 3 rfl dJ9_append_2_24 ?_
    refine vv_iload_n (pc := 25) X (kf := 3) (i := 3) rfl 0 rfl dJ9_append_2_25 ?_
    refine vv_aload_n (pc := 26) X (kf := 0) (i := 0) rfl 2 rfl dJ9_append_2_26 ?_
    refine vv_getR (pc := 27) X (fun _ z => by cases List.mem_singleton.mp z; exact fl_J9_15_25) dJ9_append_2_27 (fun v13 => ?_)
    refine vv_callI (pc := 30) (rest := []) (by rfl) (fun r8 k8 e8 => zz_callS X (m_J19_getChars (hlM X) _ _ _ _ _ _ e8) q481 q482 q155 q483 nh_J19 rfl (by decide) (by decide) (Nat.le_of_ble_eq_true rfl) dJ9_append_2_30) (fun v14 h15 => ?_)
    refine vv_pop (pc := 33) X rfl dJ9_append_2_33 ?_
    refine vv_goto (pc := 34) (tgt := 48) X dJ9_append_2_34 rfl ?_
    refine vv_aload_n (pc := 48) X (kf := 0) (i := 0) rfl 2 rfl dJ9_append_2_48 ?_
    refine vv_iload_n (pc := 49) X (kf := 3) (i := 3) rfl 0 rfl dJ9_append_2_49 ?_
    refine vv_putI (pc := 50) (fin := false) X (fun _ z => by cases List.mem_singleton.mp z; exact fl_J9_79_25) (fun z => nomatch z) (fun z => nomatch z) dJ9_append_2_50 (fun h16 => ?_)
    refine vv_aload_n (pc := 53) X (kf := 0) (i := 0) rfl 2 rfl dJ9_append_2_53 ?_
    exact vv_aretO X rfl rfl dJ9_append_2_54
theorem m_J9_append_2 {l : Launch} (hl : l.stackTraces = false) {G : va_G} (a0 : Nat) (a1 : Int) (h : HP) : ∀ r hf, f_J9_append_2 a0 a1 h = some (r, hf) → Ct l yJ9_append_2 (ws_ yJ9_append_2 cJ9_append_2 4 (some (.object "java/lang/AbstractStringBuilder"))) 4 180 G h [.ref a0, .int (iI a1)] (jR r) hf :=
  zz_ofW hl (by decide +kernel) (lv := [(0, LR (some a0)), (1, LI a1)]) (by simp [lv_args, lvL, lvV, zz_rfc, zz_rfs, zz_ci, zz_cr, zz_cj, zz_cf, zz_cd]) (by simp [lg_sl, zz_rfc, zz_ci, zz_cr, zz_cj, zz_cf, zz_cd]) (fun _ X => A_J9_append_2 X a0 a1 h)
-- J10_append_2 java/lang/StringBuilder.append(I)Ljava/lang/StringBuilder;
noncomputable def f_J10_append_2 (a0 : Nat) (a1 : Int) (h : HP) : Option ((Option Nat) × HP) :=
  (rcv h (some a0) [25]).bind fun b4 =>
  hb (f_J9_append_2 b4 a1 h) fun v1 h2 =>
  some ((some a0), h2)
theorem A_J10_append_2 {M : hp_M} {G : va_G} {h0 : HP} (X : hp_X M G h0 "java/lang/StringBuilder" "append" cJ10_append_2 2 (some (.object "java/lang/StringBuilder")) [] 5 211) (a0 : Nat) (a1 : Int) (h : HP) : vv M G h0 2 (hp_End M G h0) jR h 0 [(0, LR (some a0)), (1, LI a1)] [] (f_J10_append_2 a0 a1 h) := by
  unfold f_J10_append_2
  refine vv_aload_n (pc := 0) X (kf := 0) (i := 0) rfl 0 rfl dJ10_append_2_0 ?_
  refine vv_iload_n (pc := 1) X (kf := 1) (i := 1) rfl 1 rfl dJ10_append_2_1 ?_
  refine vv_rcv (fun b4 t9 c9 fs9 e5 g9 k9 => ?_)
  cases List.mem_singleton.mp k9
  refine vv_callR (pc := 2) (rest := []) (by rw [e5]; rfl) (fun r8 k8 e8 => zz_callSU X (m_J9_append_2 (hlM X) _ _ _ _ _ e8) g9 rfl q475 q4095 q348 q476 q144 q477 (by decide) rfl (by decide) (by decide) (Nat.le_of_ble_eq_true rfl) dJ10_append_2_2) (fun v1 h2 => ?_)
  refine vv_pop (pc := 5) X rfl dJ10_append_2_5 ?_
  refine vv_aload_n (pc := 6) X (kf := 0) (i := 0) rfl 0 rfl dJ10_append_2_6 ?_
  exact vv_aretO X rfl rfl dJ10_append_2_7
theorem m_J10_append_2 {l : Launch} (hl : l.stackTraces = false) {G : va_G} (a0 : Nat) (a1 : Int) (h : HP) : ∀ r hf, f_J10_append_2 a0 a1 h = some (r, hf) → Ct l yJ10_append_2 (ws_ yJ10_append_2 cJ10_append_2 2 (some (.object "java/lang/StringBuilder"))) 5 211 G h [.ref a0, .int (iI a1)] (jR r) hf :=
  zz_ofW hl (by decide +kernel) (lv := [(0, LR (some a0)), (1, LI a1)]) (by simp [lv_args, lvL, lvV, zz_rfc, zz_rfs, zz_ci, zz_cr, zz_cj, zz_cf, zz_cd]) (by simp [lg_sl, zz_rfc, zz_ci, zz_cr, zz_cj, zz_cf, zz_cd]) (fun _ X => A_J10_append_2 X a0 a1 h)
-- J9_inflateIfNeededFor java/lang/AbstractStringBuilder.inflateIfNeededFor(Ljava/lang/String;)V
noncomputable def b_J9_inflateIfNeededFor_21 (h : HP) : Option ((Unit) × HP) :=
  some ((), h)
theorem B_J9_inflateIfNeededFor_21 {M : hp_M} {G : va_G} {h0 : HP} (X : hp_X M G h0 "java/lang/AbstractStringBuilder" "inflateIfNeededFor" cJ9_inflateIfNeededFor 2 none [] 1 28) (h : HP) : vv M G h0 2 (hp_End M G h0) jV h 21 [] [] (b_J9_inflateIfNeededFor_21 h) := by
  unfold b_J9_inflateIfNeededFor_21
  exact vv_vreturn X rfl rfl dJ9_inflateIfNeededFor_21
noncomputable def f_J9_inflateIfNeededFor (a0 : Nat) (a1 : Option Nat) (h : HP) : Option ((Unit) × HP) :=
  iEQ 1 0
    (b_J9_inflateIfNeededFor_21 h)
    ((rdI h (some a0) [25] 1).bind fun v1 =>
    (rcv h a1 [26]).bind fun b4 =>
    hb (f_J11_coder b4 h) fun v2 h3 =>
    iEQ v1 v2
      (b_J9_inflateIfNeededFor_21 h3)
      (none))
theorem A_J9_inflateIfNeededFor {M : hp_M} {G : va_G} {h0 : HP} (X : hp_X M G h0 "java/lang/AbstractStringBuilder" "inflateIfNeededFor" cJ9_inflateIfNeededFor 2 none [] 1 28) (a0 : Nat) (a1 : Option Nat) (h : HP) : vv M G h0 2 (hp_End M G h0) jV h 0 [(0, LR (some a0)), (1, LR a1)] [] (f_J9_inflateIfNeededFor a0 a1 h) := by
  unfold f_J9_inflateIfNeededFor
  refine vv_gets (pc := 0) (w := LI 1) X (gs_0 _) rfl q327 dJ9_inflateIfNeededFor_0 ?_
  refine vv_if_eq (pc := 3) (tgt := 21) X dJ9_inflateIfNeededFor_3 rfl ?_ ?_
  · exact vv_sub [] (by rfl) (B_J9_inflateIfNeededFor_21 X _)
  · refine vv_aload_n (pc := 6) X (kf := 0) (i := 0) rfl 0 rfl dJ9_inflateIfNeededFor_6 ?_
    refine vv_getI (pc := 7) X (fun _ z => by cases List.mem_singleton.mp z; exact fl_J9_22_25) dJ9_inflateIfNeededFor_7 (fun v1 => ?_)
    refine vv_aload_n (pc := 10) X (kf := 1) (i := 1) rfl 1 rfl dJ9_inflateIfNeededFor_10 ?_
    refine vv_rcv (fun b4 t9 c9 fs9 e5 g9 k9 => ?_)
    cases List.mem_singleton.mp k9
    refine vv_callI (pc := 11) (rest := [LI v1]) (by rw [e5]; rfl) (fun r8 k8 e8 => zz_callV X (m_J11_coder (hlM X) _ _ _ _ e8) g9 rfl rfl q445 q433 q434 q146 q435 nh_J11 rfl (by decide) (by decide) (Nat.le_of_ble_eq_true rfl) dJ9_inflateIfNeededFor_11) (fun v2 h3 => ?_)
    refine vv_icmp_eq (pc := 14) (tgt := 21) X dJ9_inflateIfNeededFor_14 rfl ?_ ?_
    · exact vv_sub [] (by rfl) (B_J9_inflateIfNeededFor_21 X _)
    · refine vv_aload_n (pc := 17) X (kf := 0) (i := 0) rfl 0 rfl dJ9_inflateIfNeededFor_17 ?_
      exact vv_none
theorem m_J9_inflateIfNeededFor {l : Launch} (hl : l.stackTraces = false) {G : va_G} (a0 : Nat) (a1 : Option Nat) (h : HP) : ∀ r hf, f_J9_inflateIfNeededFor a0 a1 h = some (r, hf) → Ct l yJ9_inflateIfNeededFor (ws_ yJ9_inflateIfNeededFor cJ9_inflateIfNeededFor 2 none) 1 28 G h [.ref a0, va_rf a1] (jV r) hf :=
  zz_ofW hl (by decide +kernel) (lv := [(0, LR (some a0)), (1, LR a1)]) (by simp [lv_args, lvL, lvV, zz_rfc, zz_rfs, zz_ci, zz_cr, zz_cj, zz_cf, zz_cd]) (by simp [lg_sl, zz_rfc, zz_ci, zz_cr, zz_cj, zz_cf, zz_cd]) (fun _ X => A_J9_inflateIfNeededFor X a0 a1 h)
-- J17_inflate java/lang/StringLatin1.inflate([BI[BII)V
noncomputable def f_J17_inflate (a1 : Option Nat) (a2 : Int) (a3 : Option Nat) (a4 : Int) (a5 : Int) (h : HP) : Option ((Unit) × HP) :=
  none
theorem A_J17_inflate {M : hp_M} {G : va_G} {h0 : HP} (X : hp_X M G h0 "java/lang/StringLatin1" "inflate" cJ17_inflate 5 none [] 0 0) (a1 : Option Nat) (a2 : Int) (a3 : Option Nat) (a4 : Int) (a5 : Int) (h : HP) : vv M G h0 5 (hp_End M G h0) jV h 0 [(0, LR a1), (1, LI a2), (2, LR a3), (3, LI a4), (4, LI a5)] [] (f_J17_inflate a1 a2 a3 a4 a5 h) := by
  unfold f_J17_inflate
  refine vv_aload_n (pc := 0) X (kf := 0) (i := 0) rfl 0 rfl dJ17_inflate_0 ?_
  refine vv_iload_n (pc := 1) X (kf := 1) (i := 1) rfl 1 rfl dJ17_inflate_1 ?_
  refine vv_aload_n (pc := 2) X (kf := 2) (i := 2) rfl 2 rfl dJ17_inflate_2 ?_
  refine vv_iload_n (pc := 3) X (kf := 3) (i := 3) rfl 3 rfl dJ17_inflate_3 ?_
  refine vv_iload (pc := 4) X 4 rfl dJ17_inflate_4 ?_
  exact vv_none
theorem m_J17_inflate {l : Launch} (hl : l.stackTraces = false) {G : va_G} (a1 : Option Nat) (a2 : Int) (a3 : Option Nat) (a4 : Int) (a5 : Int) (h : HP) : ∀ r hf, f_J17_inflate a1 a2 a3 a4 a5 h = some (r, hf) → Ct l yJ17_inflate (ws_ yJ17_inflate cJ17_inflate 5 none) 0 0 G h [va_rf a1, .int (iI a2), va_rf a3, .int (iI a4), .int (iI a5)] (jV r) hf :=
  zz_ofW hl (by decide +kernel) (lv := [(0, LR a1), (1, LI a2), (2, LR a3), (3, LI a4), (4, LI a5)]) (by simp [lv_args, lvL, lvV, zz_rfc, zz_rfs, zz_ci, zz_cr, zz_cj, zz_cf, zz_cd]) (by simp [lg_sl, zz_rfc, zz_ci, zz_cr, zz_cj, zz_cf, zz_cd]) (fun _ X => A_J17_inflate X a1 a2 a3 a4 a5 h)
-- J11_getBytes java/lang/String.getBytes([BIB)V
noncomputable def b_J11_getBytes_43 (h : HP) : Option ((Unit) × HP) :=
  some ((), h)
theorem B_J11_getBytes_43 {M : hp_M} {G : va_G} {h0 : HP} (X : hp_X M G h0 "java/lang/String" "getBytes" cJ11_getBytes 4 none [] 1 100) (h : HP) : vv M G h0 4 (hp_End M G h0) jV h 43 [] [] (b_J11_getBytes_43 h) := by
  unfold b_J11_getBytes_43
  exact vv_vreturn X rfl rfl dJ11_getBytes_43
noncomputable def f_J11_getBytes (a0 : Nat) (a1 : Option Nat) (a2 : Int) (a3 : Int) (h : HP) : Option ((Unit) × HP) :=
  (rcv h (some a0) [26]).bind fun b3 =>
  hb (f_J11_coder b3 h) fun v1 h2 =>
  iEQ v1 a3
    ((rdR h2 (some a0) [26] 0).bind fun v10 =>
    (rdR h2 (some a0) [26] 0).bind fun v11 =>
    (alen h2 v11).bind fun v12 =>
    (acpI h2 .byte v10 0 a1 (iShl a2 a3) v12).bind fun h13 =>
    b_J11_getBytes_43 h13)
    ((rdR h2 (some a0) [26] 0).bind fun v5 =>
    (rdR h2 (some a0) [26] 0).bind fun v6 =>
    (alen h2 v6).bind fun v7 =>
    hb (f_J17_inflate v5 0 a1 a2 v7 h2) fun _ h9 =>
    b_J11_getBytes_43 h9)
theorem A_J11_getBytes {M : hp_M} {G : va_G} {h0 : HP} (X : hp_X M G h0 "java/lang/String" "getBytes" cJ11_getBytes 4 none [] 1 100) (a0 : Nat) (a1 : Option Nat) (a2 : Int) (a3 : Int) (h : HP) : vv M G h0 4 (hp_End M G h0) jV h 0 [(0, LR (some a0)), (1, LR a1), (2, LI a2), (3, LI a3)] [] (f_J11_getBytes a0 a1 a2 a3 h) := by
  unfold f_J11_getBytes
  refine vv_aload_n (pc := 0) X (kf := 0) (i := 0) rfl 0 rfl dJ11_getBytes_0 ?_
  refine vv_rcv (fun b3 t9 c9 fs9 e4 g9 k9 => ?_)
  cases List.mem_singleton.mp k9
  refine vv_callI (pc := 1) (rest := []) (by rw [e4]; rfl) (fun r8 k8 e8 => zz_callV X (m_J11_coder (hlM X) _ _ _ _ e8) g9 rfl rfl q432 q433 q434 q146 q435 nh_J11 rfl (by decide) (by decide) (Nat.le_of_ble_eq_true rfl) dJ11_getBytes_1) (fun v1 h2 => ?_)
  refine vv_iload_n (pc := 4) X (kf := 3) (i := 3) rfl 3 rfl dJ11_getBytes_4 ?_
  refine vv_icmp_ne (pc := 5) (tgt := 28) X dJ11_getBytes_5 rfl ?_ ?_
  · refine vv_aload_n (pc := 28) X (kf := 0) (i := 0) rfl 0 rfl dJ11_getBytes_28 ?_
    refine vv_getR (pc := 29) X (fun _ z => by cases List.mem_singleton.mp z; exact fl_J11_9_26) dJ11_getBytes_29 (fun v5 => ?_)
    refine vv_iconst (pc := 32) X dJ11_getBytes_32 ?_
    refine vv_aload_n (pc := 33) X (kf := 1) (i := 1) rfl 1 rfl dJ11_getBytes_33 ?_
    refine vv_iload_n (pc := 34) X (kf := 2) (i := 2) rfl 2 rfl dJ11_getBytes_34 ?_
    refine vv_aload_n (pc := 35) X (kf := 0) (i := 0) rfl 0 rfl dJ11_getBytes_35 ?_
    refine vv_getR (pc := 36) X (fun _ z => by cases List.mem_singleton.mp z; exact fl_J11_9_26) dJ11_getBytes_36 (fun v6 => ?_)
    refine vv_alen (pc := 39) X dJ11_getBytes_39 (fun v7 => ?_)
    refine vv_callV (pc := 40) (rest := []) (by rfl) (fun r8 k8 e8 => zz_callS X (m_J17_inflate (hlM X) _ _ _ _ _ _ _ _ e8) q470 q451 q153 q452 nh_J17 rfl (by decide) (by decide) (Nat.le_of_ble_eq_true rfl) dJ11_getBytes_40) (fun v8 h9 => ?_)
    exact vv_sub [] (by rfl) (B_J11_getBytes_43 X _)
  · refine vv_aload_n (pc := 8) X (kf := 0) (i := 0) rfl 0 rfl dJ11_getBytes_8 ?_
    refine vv_getR (pc := 9) X (fun _ z => by cases List.mem_singleton.mp z; exact fl_J11_9_26) dJ11_getBytes_9 (fun v10 => ?_)
    refine vv_iconst (pc := 12) X dJ11_getBytes_12 ?_
    refine vv_aload_n (pc := 13) X (kf := 1) (i := 1) rfl 1 rfl dJ11_getBytes_13 ?_
    refine vv_iload_n (pc := 14) X (kf := 2) (i := 2) rfl 2 rfl dJ11_getBytes_14 ?_
    refine vv_iload_n (pc := 15) X (kf := 3) (i := 3) rfl 3 rfl dJ11_getBytes_15 ?_
    refine vv_ishl (pc := 16) X dJ11_getBytes_16 ?_
    refine vv_aload_n (pc := 17) X (kf := 0) (i := 0) rfl 0 rfl dJ11_getBytes_17 ?_
    refine vv_getR (pc := 18) X (fun _ z => by cases List.mem_singleton.mp z; exact fl_J11_9_26) dJ11_getBytes_18 (fun v11 => ?_)
    refine vv_alen (pc := 21) X dJ11_getBytes_21 (fun v12 => ?_)
    refine vv_arraycopy (pc := 22) X q469 q396 q395 q151 (by decide) (by decide) (Nat.le_of_ble_eq_true rfl) dJ11_getBytes_22 (fun h13 => ?_)
    refine vv_goto (pc := 25) (tgt := 43) X dJ11_getBytes_25 rfl ?_
    exact vv_sub [] (by rfl) (B_J11_getBytes_43 X _)
theorem m_J11_getBytes {l : Launch} (hl : l.stackTraces = false) {G : va_G} (a0 : Nat) (a1 : Option Nat) (a2 : Int) (a3 : Int) (h : HP) : ∀ r hf, f_J11_getBytes a0 a1 a2 a3 h = some (r, hf) → Ct l yJ11_getBytes (ws_ yJ11_getBytes cJ11_getBytes 4 none) 1 100 G h [.ref a0, va_rf a1, .int (iI a2), .int (iI a3)] (jV r) hf :=
  zz_ofW hl (by decide +kernel) (lv := [(0, LR (some a0)), (1, LR a1), (2, LI a2), (3, LI a3)]) (by simp [lv_args, lvL, lvV, zz_rfc, zz_rfs, zz_ci, zz_cr, zz_cj, zz_cf, zz_cd]) (by simp [lg_sl, zz_rfc, zz_ci, zz_cr, zz_cj, zz_cf, zz_cd]) (fun _ X => A_J11_getBytes X a0 a1 a2 a3 h)
-- J9_putStringAt java/lang/AbstractStringBuilder.putStringAt(ILjava/lang/String;)V
noncomputable def f_J9_putStringAt (a0 : Nat) (a1 : Int) (a2 : Option Nat) (h : HP) : Option ((Unit) × HP) :=
  (rcv h (some a0) [25]).bind fun b3 =>
  hb (f_J9_inflateIfNeededFor b3 a2 h) fun _ h2 =>
  (rdR h2 (some a0) [25] 0).bind fun v5 =>
  (rdI h2 (some a0) [25] 1).bind fun v6 =>
  (rcv h2 a2 [26]).bind fun b9 =>
  hb (f_J11_getBytes b9 v5 a1 v6 h2) fun _ h8 =>
  some ((), h8)
theorem A_J9_putStringAt {M : hp_M} {G : va_G} {h0 : HP} (X : hp_X M G h0 "java/lang/AbstractStringBuilder" "putStringAt" cJ9_putStringAt 3 none [] 2 131) (a0 : Nat) (a1 : Int) (a2 : Option Nat) (h : HP) : vv M G h0 3 (hp_End M G h0) jV h 0 [(0, LR (some a0)), (1, LI a1), (2, LR a2)] [] (f_J9_putStringAt a0 a1 a2 h) := by
  unfold f_J9_putStringAt
  refine vv_aload_n (pc := 0) X (kf := 0) (i := 0) rfl 0 rfl dJ9_putStringAt_0 ?_
  refine vv_aload_n (pc := 1) X (kf := 2) (i := 2) rfl 2 rfl dJ9_putStringAt_1 ?_
  refine vv_rcv (fun b3 t9 c9 fs9 e4 g9 k9 => ?_)
  cases List.mem_singleton.mp k9
  refine vv_callV (pc := 2) (rest := []) (by rw [e4]; rfl) (fun r8 k8 e8 => zz_callP X (m_J9_inflateIfNeededFor (hlM X) _ _ _ _ _ e8) g9 rfl q441 q443 q442 q512 rfl q144 q444 nh_J9 rfl (by decide) (by decide) (Nat.le_of_ble_eq_true rfl) dJ9_putStringAt_2) (fun v1 h2 => ?_)
  refine vv_aload_n (pc := 5) X (kf := 2) (i := 2) rfl 2 rfl dJ9_putStringAt_5 ?_
  refine vv_aload_n (pc := 6) X (kf := 0) (i := 0) rfl 0 rfl dJ9_putStringAt_6 ?_
  refine vv_getR (pc := 7) X (fun _ z => by cases List.mem_singleton.mp z; exact fl_J9_15_25) dJ9_putStringAt_7 (fun v5 => ?_)
  refine vv_iload_n (pc := 10) X (kf := 1) (i := 1) rfl 1 rfl dJ9_putStringAt_10 ?_
  refine vv_aload_n (pc := 11) X (kf := 0) (i := 0) rfl 0 rfl dJ9_putStringAt_11 ?_
  refine vv_getI (pc := 12) X (fun _ z => by cases List.mem_singleton.mp z; exact fl_J9_22_25) dJ9_putStringAt_12 (fun v6 => ?_)
  refine vv_rcv (fun b9 t9 c9 fs9 e10 g9 k9 => ?_)
  cases List.mem_singleton.mp k9
  refine vv_callV (pc := 15) (rest := []) (by rw [e10]; rfl) (fun r8 k8 e8 => zz_callV X (m_J11_getBytes (hlM X) _ _ _ _ _ _ _ e8) g9 rfl rfl q465 q466 q467 q146 q468 nh_J11 rfl (by decide) (by decide) (Nat.le_of_ble_eq_true rfl) dJ9_putStringAt_15) (fun v7 h8 => ?_)
  exact vv_vreturn X rfl rfl dJ9_putStringAt_18
theorem m_J9_putStringAt {l : Launch} (hl : l.stackTraces = false) {G : va_G} (a0 : Nat) (a1 : Int) (a2 : Option Nat) (h : HP) : ∀ r hf, f_J9_putStringAt a0 a1 a2 h = some (r, hf) → Ct l yJ9_putStringAt (ws_ yJ9_putStringAt cJ9_putStringAt 3 none) 2 131 G h [.ref a0, .int (iI a1), va_rf a2] (jV r) hf :=
  zz_ofW hl (by decide +kernel) (lv := [(0, LR (some a0)), (1, LI a1), (2, LR a2)]) (by simp [lv_args, lvL, lvV, zz_rfc, zz_rfs, zz_ci, zz_cr, zz_cj, zz_cf, zz_cd]) (by simp [lg_sl, zz_rfc, zz_ci, zz_cr, zz_cj, zz_cf, zz_cd]) (fun _ X => A_J9_putStringAt X a0 a1 a2 h)
