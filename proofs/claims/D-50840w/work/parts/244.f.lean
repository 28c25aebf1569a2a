/-! STAGE 1c: functions and contracts (printed by gen/mkfuncs.py). -/
set_option maxRecDepth 100000
set_option linter.unusedVariables false
-- X9_take RenamedWordsModel.take(III)I
noncomputable def b_X9_take_45 (h : HP) : Option ((Int) × HP) :=
  some (0, h)
theorem B_X9_take_45 {M : hp_M} {G : va_G} {h0 : HP} (X : hp_X M G h0 "RenamedWordsModel" "take" cX9_take 4 (some .int) [] 9 274) (h : HP) : vv M G h0 4 (hp_End M G h0) jI h 45 [] [] (b_X9_take_45 h) := by
  unfold b_X9_take_45
  refine vv_iconst (pc := 45) X dX9_take_45 ?_
  exact vv_iretI X rfl rfl dX9_take_46
noncomputable def b_X9_take_38 (x0 : Option Nat) (x1 : Int) (x2 : Int) (x3 : Int) (s0 : Int) (s1 : Option Nat) (h : HP) : Option ((Int) × HP) :=
  (rcv h s1 [7]).bind fun b14 =>
  hb (f_X9_fails b14 s0 2 h) fun v12 h13 =>
  iEQ v12 0
    ((rcv h13 x0 [7]).bind fun b18 =>
    hb (f_X9_holds b18 h13) fun _ h17 =>
    (rcv h17 x0 [7]).bind fun b22 =>
    hb (f_X9_takeNow b22 x1 x2 x3 h17) fun v20 h21 =>
    (rcv h21 x0 [7]).bind fun b26 =>
    hb (f_X9_recorded b26 v20 h21) fun v24 h25 =>
    some (v24, h25))
    (b_X9_take_45 h13)
theorem B_X9_take_38 {M : hp_M} {G : va_G} {h0 : HP} (X : hp_X M G h0 "RenamedWordsModel" "take" cX9_take 4 (some .int) [] 9 274) (x0 : Option Nat) (x1 : Int) (x2 : Int) (x3 : Int) (s0 : Int) (s1 : Option Nat) (h : HP) : vv M G h0 4 (hp_End M G h0) jI h 38 [(0, LR x0), (1, LI x1), (2, LI x2), (3, LI x3)] [LI s0, LR s1] (b_X9_take_38 x0 x1 x2 x3 s0 s1 h) := by
  unfold b_X9_take_38
  refine vv_iconst (pc := 38) X dX9_take_38 ?_
  refine vv_rcv (fun b14 t9 c9 fs9 e15 g9 k9 => ?_)
  cases List.mem_singleton.mp k9
  refine vv_callI (pc := 39) (rest := []) (by rw [e15]; rfl) (fun r8 k8 e8 => zz_callV X (m_X9_fails (hlM X) _ _ _ _ _ _ e8) g9 rfl rfl q3841 q3843 qs109 q164 q3844 nh_X9 rfl (by decide) (by decide) (Nat.le_of_ble_eq_true rfl) dX9_take_39) (fun v12 h13 => ?_)
  refine vv_if_eq (pc := 42) (tgt := 47) X dX9_take_42 rfl ?_ ?_
  · refine vv_aload_n (pc := 47) X (kf := 0) (i := 0) rfl 0 rfl dX9_take_47 ?_
    refine vv_rcv (fun b18 t9 c9 fs9 e19 g9 k9 => ?_)
    cases List.mem_singleton.mp k9
    refine vv_callV (pc := 48) (rest := []) (by rw [e19]; rfl) (fun r8 k8 e8 => zz_callV X (m_X9_holds (hlM X) _ _ _ _ e8) g9 rfl rfl q4019 q4021 qs126 q164 q4022 nh_X9 rfl (by decide) (by decide) (Nat.le_of_ble_eq_true rfl) dX9_take_48) (fun v16 h17 => ?_)
    refine vv_aload_n (pc := 51) X (kf := 0) (i := 0) rfl 0 rfl dX9_take_51 ?_
    refine vv_aload_n (pc := 52) X (kf := 0) (i := 0) rfl 0 rfl dX9_take_52 ?_
    refine vv_iload_n (pc := 53) X (kf := 1) (i := 1) rfl 1 rfl dX9_take_53 ?_
    refine vv_iload_n (pc := 54) X (kf := 2) (i := 2) rfl 2 rfl dX9_take_54 ?_
    refine vv_iload_n (pc := 55) X (kf := 3) (i := 3) rfl 3 rfl dX9_take_55 ?_
    refine vv_rcv (fun b22 t9 c9 fs9 e23 g9 k9 => ?_)
    cases List.mem_singleton.mp k9
    refine vv_callI (pc := 56) (rest := [LR x0]) (by rw [e23]; rfl) (fun r8 k8 e8 => zz_callV X (m_X9_takeNow (hlM X) _ _ _ _ _ _ _ e8) g9 rfl rfl q3825 q3827 qs106 q164 q3828 nh_X9 rfl (by decide) (by decide) (Nat.le_of_ble_eq_true rfl) dX9_take_56) (fun v20 h21 => ?_)
    refine vv_rcv (fun b26 t9 c9 fs9 e27 g9 k9 => ?_)
    cases List.mem_singleton.mp k9
    refine vv_callI (pc := 59) (rest := []) (by rw [e27]; rfl) (fun r8 k8 e8 => zz_callV X (m_X9_recorded (hlM X) _ _ _ _ _ e8) g9 rfl rfl q4023 q4025 qs127 q164 q4026 nh_X9 rfl (by decide) (by decide) (Nat.le_of_ble_eq_true rfl) dX9_take_59) (fun v24 h25 => ?_)
    exact vv_iretI X rfl rfl dX9_take_62
  · exact vv_sub [] (by rfl) (B_X9_take_45 X _)
noncomputable def f_X9_take (a0 : Nat) (a1 : Int) (a2 : Int) (a3 : Int) (h : HP) : Option ((Int) × HP) :=
  (wrI h (some a0) [7] 7 0).bind fun h1 =>
  (rcv h1 (some a0) [7]).bind fun b4 =>
  hb (f_X9_noPattern b4 a1 h1) fun v2 h3 =>
  iEQ v2 0
    ((rcv h3 (some a0) [7]).bind fun b8 =>
    hb (f_X9_noOne b8 a2 2 h3) fun v6 h7 =>
    iEQ v6 0
      (hb (f_X9_in a3 1 20 h7) fun v10 h11 =>
      iEQ v10 0
        (b_X9_take_38 (some a0) a1 a2 a3 1 (some a0) h11)
        (b_X9_take_38 (some a0) a1 a2 a3 0 (some a0) h11))
      (b_X9_take_45 h7))
    (b_X9_take_45 h3)
theorem A_X9_take {M : hp_M} {G : va_G} {h0 : HP} (X : hp_X M G h0 "RenamedWordsModel" "take" cX9_take 4 (some .int) [] 9 274) (a0 : Nat) (a1 : Int) (a2 : Int) (a3 : Int) (h : HP) : vv M G h0 4 (hp_End M G h0) jI h 0 [(0, LR (some a0)), (1, LI a1), (2, LI a2), (3, LI a3)] [] (f_X9_take a0 a1 a2 a3 h) := by
  unfold f_X9_take
  refine vv_aload_n (pc := 0) X (kf := 0) (i := 0) rfl 0 rfl dX9_take_0 ?_
  refine vv_iconst (pc := 1) X dX9_take_1 ?_
  refine vv_putI (pc := 2) (fin := false) X (fun _ z => by cases List.mem_singleton.mp z; exact fl_X9_69_7) (fun z => nomatch z) (fun z => nomatch z) dX9_take_2 (fun h1 => ?_)
  refine vv_aload_n (pc := 5) X (kf := 0) (i := 0) rfl 0 rfl dX9_take_5 ?_
  refine vv_iload_n (pc := 6) X (kf := 1) (i := 1) rfl 1 rfl dX9_take_6 ?_
  refine vv_rcv (fun b4 t9 c9 fs9 e5 g9 k9 => ?_)
  cases List.mem_singleton.mp k9
  refine vv_callI (pc := 7) (rest := []) (by rw [e5]; rfl) (fun r8 k8 e8 => zz_callV X (m_X9_noPattern (hlM X) _ _ _ _ _ e8) g9 rfl rfl q3876 q3878 qs113 q164 q3879 nh_X9 rfl (by decide) (by decide) (Nat.le_of_ble_eq_true rfl) dX9_take_7) (fun v2 h3 => ?_)
  refine vv_if_ne (pc := 10) (tgt := 45) X dX9_take_10 rfl ?_ ?_
  · exact vv_sub [] (by rfl) (B_X9_take_45 X _)
  · refine vv_aload_n (pc := 13) X (kf := 0) (i := 0) rfl 0 rfl dX9_take_13 ?_
    refine vv_iload_n (pc := 14) X (kf := 2) (i := 2) rfl 2 rfl dX9_take_14 ?_
    refine vv_iconst (pc := 15) X dX9_take_15 ?_
    refine vv_rcv (fun b8 t9 c9 fs9 e9 g9 k9 => ?_)
    cases List.mem_singleton.mp k9
    refine vv_callI (pc := 16) (rest := []) (by rw [e9]; rfl) (fun r8 k8 e8 => zz_callV X (m_X9_noOne (hlM X) _ _ _ _ _ _ e8) g9 rfl rfl q4015 q4017 qs125 q164 q4018 nh_X9 rfl (by decide) (by decide) (Nat.le_of_ble_eq_true rfl) dX9_take_16) (fun v6 h7 => ?_)
    refine vv_if_ne (pc := 19) (tgt := 45) X dX9_take_19 rfl ?_ ?_
    · exact vv_sub [] (by rfl) (B_X9_take_45 X _)
    · refine vv_aload_n (pc := 22) X (kf := 0) (i := 0) rfl 0 rfl dX9_take_22 ?_
      refine vv_iload_n (pc := 23) X (kf := 3) (i := 3) rfl 3 rfl dX9_take_23 ?_
      refine vv_iconst (pc := 24) X dX9_take_24 ?_
      refine vv_bipush (pc := 25) X (by decide) dX9_take_25 ?_
      refine vv_callI (pc := 27) (rest := [LR (some a0)]) (by rfl) (fun r8 k8 e8 => zz_callS X (m_X9_in (hlM X) _ _ _ _ _ _ e8) q3593 q3594 q164 q3595 nh_X9 rfl (by decide) (by decide) (Nat.le_of_ble_eq_true rfl) dX9_take_27) (fun v10 h11 => ?_)
      refine vv_if_ne (pc := 30) (tgt := 37) X dX9_take_30 rfl ?_ ?_
      · refine vv_iconst (pc := 37) X dX9_take_37 ?_
        exact B_X9_take_38 X _ _ _ _ _ _ _
      · refine vv_iconst (pc := 33) X dX9_take_33 ?_
        refine vv_goto (pc := 34) (tgt := 38) X dX9_take_34 rfl ?_
        exact B_X9_take_38 X _ _ _ _ _ _ _
theorem m_X9_take {l : Launch} (hl : l.stackTraces = false) {G : va_G} (a0 : Nat) (a1 : Int) (a2 : Int) (a3 : Int) (h : HP) : ∀ r hf, f_X9_take a0 a1 a2 a3 h = some (r, hf) → Ct l yX9_take (ws_ yX9_take cX9_take 4 (some .int)) 9 274 G h [.ref a0, .int (iI a1), .int (iI a2), .int (iI a3)] (jI r) hf :=
  zz_ofW hl (by decide +kernel) (lv := [(0, LR (some a0)), (1, LI a1), (2, LI a2), (3, LI a3)]) (by simp [lv_args, lvL, lvV, zz_rfc, zz_rfs, zz_ci, zz_cr, zz_cj, zz_cf, zz_cd]) (by simp [lg_sl, zz_rfc, zz_ci, zz_cr, zz_cj, zz_cf, zz_cd]) (fun _ X => A_X9_take X a0 a1 a2 a3 h)
-- X1_setFirm RenamedWords.setFirm(I)I
noncomputable def f_X1_setFirm (a0 : Nat) (a1 : Int) (h : HP) : Option ((Nat ⊕ Int) × HP) :=
  hbx (f_X1_firmAt a1 h) (fun q3 h4 =>
      some (.inl q3, h4)) fun _ h2 =>
  (rcv h2 (some a0) [0]).bind fun b7 =>
  hb (f_X1_copied b7 h2) fun v5 h6 =>
  (rdR h6 (some a0) [0] 0).bind fun v9 =>
  (rcv h6 v9 [1]).bind fun b12 =>
  hb (f_X2_firms b12 a1 h6) fun v10 h11 =>
  (rcv h11 (some a0) [0]).bind fun b16 =>
  hb (f_X1_made b16 v5 v10 h11) fun v14 h15 =>
  some (.inr v14, h15)
theorem A_X1_setFirm {M : hp_M} {G : va_G} {h0 : HP} (X : hp_X M G h0 "RenamedWords" "setFirm" cX1_setFirm 2 (some .int) [] 10 304) (a0 : Nat) (a1 : Int) (h : HP) : vv M G h0 2 (hp_End M G h0) xI h 0 [(0, LR (some a0)), (1, LI a1)] [] (f_X1_setFirm a0 a1 h) := by
  unfold f_X1_setFirm
  refine vv_iload_n (pc := 0) X (kf := 1) (i := 1) rfl 1 rfl dX1_setFirm_0 ?_
  refine vv_xallV (pc := 1) (rest := []) (by rfl) (fun r8 k8 e8 => zz_callS X (m_X1_firmAt (hlM X) _ _ _ _ e8) q3339 q3340 q132 q3341 nh_X1 rfl (by decide) (by decide) (Nat.le_of_ble_eq_true rfl) dX1_setFirm_1) (fun v1 h2 => ?_) (fun q3 h4 => ?_)
  · refine vv_aload_n (pc := 4) X (kf := 0) (i := 0) rfl 0 rfl dX1_setFirm_4 ?_
    refine vv_aload_n (pc := 5) X (kf := 0) (i := 0) rfl 0 rfl dX1_setFirm_5 ?_
    refine vv_rcv (fun b7 t9 c9 fs9 e8 g9 k9 => ?_)
    cases List.mem_singleton.mp k9
    refine vv_callR (pc := 6) (rest := [LR (some a0)]) (by rw [e8]; rfl) (fun r8 k8 e8 => zz_callV X (m_X1_copied (hlM X) _ _ _ _ e8) g9 rfl rfl q2119 q2121 qs23 q132 q2122 nh_X1 rfl (by decide) (by decide) (Nat.le_of_ble_eq_true rfl) dX1_setFirm_6) (fun v5 h6 => ?_)
    refine vv_aload_n (pc := 9) X (kf := 0) (i := 0) rfl 0 rfl dX1_setFirm_9 ?_
    refine vv_getR (pc := 10) X (fun _ z => by cases List.mem_singleton.mp z; exact fl_X1_35_0) dX1_setFirm_10 (fun v9 => ?_)
    refine vv_iload_n (pc := 13) X (kf := 1) (i := 1) rfl 1 rfl dX1_setFirm_13 ?_
    refine vv_rcv (fun b12 t9 c9 fs9 e13 g9 k9 => ?_)
    cases List.mem_singleton.mp k9
    refine vv_callI (pc := 14) (rest := [LR v5, LR (some a0)]) (by rw [e13]; rfl) (fun r8 k8 e8 => zz_callV X (m_X2_firms (hlM X) _ _ _ _ _ e8) g9 rfl rfl q3420 q2817 q2818 q133 q2819 nh_X2 rfl (by decide) (by decide) (Nat.le_of_ble_eq_true rfl) dX1_setFirm_14) (fun v10 h11 => ?_)
    refine vv_rcv (fun b16 t9 c9 fs9 e17 g9 k9 => ?_)
    cases List.mem_singleton.mp k9
    refine vv_callI (pc := 17) (rest := []) (by rw [e17]; rfl) (fun r8 k8 e8 => zz_callV X (m_X1_made (hlM X) _ _ _ _ _ _ e8) g9 rfl rfl q3359 q3361 qs49 q132 q3362 nh_X1 rfl (by decide) (by decide) (Nat.le_of_ble_eq_true rfl) dX1_setFirm_17) (fun v14 h15 => ?_)
    exact vv_iretI X rfl rfl dX1_setFirm_20
  · exact vvx_out X (by decide) rfl
theorem m_X1_setFirm {l : Launch} (hl : l.stackTraces = false) {G : va_G} (a0 : Nat) (a1 : Int) (h : HP) : ∀ r hf, f_X1_setFirm a0 a1 h = some (r, hf) → Ct l yX1_setFirm (ws_ yX1_setFirm cX1_setFirm 2 (some .int)) 10 304 G h [.ref a0, .int (iI a1)] (xI r) hf :=
  zz_ofW hl (by decide +kernel) (lv := [(0, LR (some a0)), (1, LI a1)]) (by simp [lv_args, lvL, lvV, zz_rfc, zz_rfs, zz_ci, zz_cr, zz_cj, zz_cf, zz_cd]) (by simp [lg_sl, zz_rfc, zz_ci, zz_cr, zz_cj, zz_cf, zz_cd]) (fun _ X => A_X1_setFirm X a0 a1 h)
-- X0_setFirm RenamedWordsLaw.setFirm(LRenamedWords;I[J)I
noncomputable def b_X0_setFirm_12 (s0 : Option Nat) (h : HP) : Option ((Int) × HP) :=
  some (1, h)
theorem B_X0_setFirm_12 {M : hp_M} {G : va_G} {h0 : HP} (X : hp_X M G h0 "RenamedWordsLaw" "setFirm" cX0_setFirm 4 (some .int) (tableOf [(0, 9, 12, 13)]) 11 333) (s0 : Option Nat) (h : HP) : vv M G h0 4 (hp_End M G h0) jI h 12 [] [LR s0] (b_X0_setFirm_12 s0 h) := by
  unfold b_X0_setFirm_12
  refine vv_astore_n (pc := 12) (lv' := [(3, LR s0)]) X (kf := 3) (i := 3) rfl (by decide) rfl dX0_setFirm_12 ?_
  refine vv_iconst (pc := 13) X dX0_setFirm_13 ?_
  exact vv_iretI X rfl rfl dX0_setFirm_14
noncomputable def f_X0_setFirm (a1 : Option Nat) (a2 : Int) (a3 : Option Nat) (h : HP) : Option ((Int) × HP) :=
  (rcv h a1 [0]).bind fun b3 =>
  hbx (f_X1_setFirm b3 a2 h) (fun q5 h6 =>
      (clsOf h6 q5).bind fun c7 =>
      if c7 = 36 then
        b_X0_setFirm_12 (some q5) h6
      else
        none) fun v1 h2 =>
  (astJ h2 a3 0 (iL v1)).bind fun h8 =>
  some (0, h8)
theorem A_X0_setFirm {M : hp_M} {G : va_G} {h0 : HP} (X : hp_X M G h0 "RenamedWordsLaw" "setFirm" cX0_setFirm 4 (some .int) (tableOf [(0, 9, 12, 13)]) 11 333) (a1 : Option Nat) (a2 : Int) (a3 : Option Nat) (h : HP) : vv M G h0 4 (hp_End M G h0) jI h 0 [(0, LR a1), (1, LI a2), (2, LR a3)] [] (f_X0_setFirm a1 a2 a3 h) := by
  unfold f_X0_setFirm
  refine vv_aload_n (pc := 0) X (kf := 2) (i := 2) rfl 2 rfl dX0_setFirm_0 ?_
  refine vv_iconst (pc := 1) X dX0_setFirm_1 ?_
  refine vv_aload_n (pc := 2) X (kf := 0) (i := 0) rfl 0 rfl dX0_setFirm_2 ?_
  refine vv_iload_n (pc := 3) X (kf := 1) (i := 1) rfl 1 rfl dX0_setFirm_3 ?_
  refine vv_rcv (fun b3 t9 c9 fs9 e4 g9 k9 => ?_)
  cases List.mem_singleton.mp k9
  refine vv_xallI (pc := 4) (rest := [LI 0, LR a3]) (by rw [e4]; rfl) (fun r8 k8 e8 => zz_callV X (m_X1_setFirm (hlM X) _ _ _ _ _ e8) g9 rfl rfl q3416 q3417 q3418 q132 q3419 nh_X1 rfl (by decide) (by decide) (Nat.le_of_ble_eq_true rfl) dX0_setFirm_4) (fun v1 h2 => ?_) (fun q5 h6 => ?_)
  · refine vv_i2l (pc := 7) X dX0_setFirm_7 ?_
    refine vv_lastore (pc := 8) X dX0_setFirm_8 (fun h8 => ?_)
    refine vv_goto (pc := 9) (tgt := 15) X dX0_setFirm_9 rfl ?_
    refine vv_iconst (pc := 15) X dX0_setFirm_15 ?_
    exact vv_iretI X rfl rfl dX0_setFirm_16
  · refine vvx_cls (fun _ c7 _ g9 => ?_)
    refine vvx_if (fun e9 => ?_) (fun _ => ?_)
    · subst e9
      refine vvx_catch X g9 rfl [] ⟨0, 9, 12, 13⟩ [] rfl (fun z hz => nomatch hz) rfl (by decide) q3013 q275 ?_
      exact vv_sub [] (by rfl) (B_X0_setFirm_12 X _ _)
    · exact vvx_none
theorem m_X0_setFirm {l : Launch} (hl : l.stackTraces = false) {G : va_G} (a1 : Option Nat) (a2 : Int) (a3 : Option Nat) (h : HP) : ∀ r hf, f_X0_setFirm a1 a2 a3 h = some (r, hf) → Ct l yX0_setFirm (wsW_ yX0_setFirm cX0_setFirm 4 (some .int) [(0, 9, 12, 13)]) 11 333 G h [va_rf a1, .int (iI a2), va_rf a3] (jI r) hf :=
  zz_ofWH hl (by decide +kernel) (lv := [(0, LR a1), (1, LI a2), (2, LR a3)]) (by simp [lv_args, lvL, lvV, zz_rfc, zz_rfs, zz_ci, zz_cr, zz_cj, zz_cf, zz_cd]) (by simp [lg_sl, zz_rfc, zz_ci, zz_cr, zz_cj, zz_cf, zz_cd]) (fun _ X => A_X0_setFirm X a1 a2 a3 h)
-- X9_setFirm RenamedWordsModel.setFirm(I)I
noncomputable def b_X9_setFirm_21 (x0 : Option Nat) (x1 : Int) (s0 : Int) (s1 : Option Nat) (h : HP) : Option ((Int) × HP) :=
  (rcv h s1 [7]).bind fun b6 =>
  hb (f_X9_fails b6 s0 1 h) fun v4 h5 =>
  iEQ v4 0
    ((rcv h5 x0 [7]).bind fun b10 =>
    hb (f_X9_holds b10 h5) fun _ h9 =>
    (rcv h9 x0 [7]).bind fun b14 =>
    hb (f_X9_firmNow b14 x1 h9) fun v12 h13 =>
    (rcv h13 x0 [7]).bind fun b18 =>
    hb (f_X9_recorded b18 v12 h13) fun v16 h17 =>
    some (v16, h17))
    (some (0, h5))
theorem B_X9_setFirm_21 {M : hp_M} {G : va_G} {h0 : HP} (X : hp_X M G h0 "RenamedWordsModel" "setFirm" cX9_setFirm 2 (some .int) [] 9 272) (x0 : Option Nat) (x1 : Int) (s0 : Int) (s1 : Option Nat) (h : HP) : vv M G h0 2 (hp_End M G h0) jI h 21 [(0, LR x0), (1, LI x1)] [LI s0, LR s1] (b_X9_setFirm_21 x0 x1 s0 s1 h) := by
  unfold b_X9_setFirm_21
  refine vv_iconst (pc := 21) X dX9_setFirm_21 ?_
  refine vv_rcv (fun b6 t9 c9 fs9 e7 g9 k9 => ?_)
  cases List.mem_singleton.mp k9
  refine vv_callI (pc := 22) (rest := []) (by rw [e7]; rfl) (fun r8 k8 e8 => zz_callV X (m_X9_fails (hlM X) _ _ _ _ _ _ e8) g9 rfl rfl q3841 q3843 qs109 q164 q3844 nh_X9 rfl (by decide) (by decide) (Nat.le_of_ble_eq_true rfl) dX9_setFirm_22) (fun v4 h5 => ?_)
  refine vv_if_eq (pc := 25) (tgt := 30) X dX9_setFirm_25 rfl ?_ ?_
  · refine vv_aload_n (pc := 30) X (kf := 0) (i := 0) rfl 0 rfl dX9_setFirm_30 ?_
    refine vv_rcv (fun b10 t9 c9 fs9 e11 g9 k9 => ?_)
    cases List.mem_singleton.mp k9
    refine vv_callV (pc := 31) (rest := []) (by rw [e11]; rfl) (fun r8 k8 e8 => zz_callV X (m_X9_holds (hlM X) _ _ _ _ e8) g9 rfl rfl q4019 q4021 qs126 q164 q4022 nh_X9 rfl (by decide) (by decide) (Nat.le_of_ble_eq_true rfl) dX9_setFirm_31) (fun v8 h9 => ?_)
    refine vv_aload_n (pc := 34) X (kf := 0) (i := 0) rfl 0 rfl dX9_setFirm_34 ?_
    refine vv_aload_n (pc := 35) X (kf := 0) (i := 0) rfl 0 rfl dX9_setFirm_35 ?_
    refine vv_iload_n (pc := 36) X (kf := 1) (i := 1) rfl 1 rfl dX9_setFirm_36 ?_
    refine vv_rcv (fun b14 t9 c9 fs9 e15 g9 k9 => ?_)
    cases List.mem_singleton.mp k9
    refine vv_callI (pc := 37) (rest := [LR x0]) (by rw [e15]; rfl) (fun r8 k8 e8 => zz_callV X (m_X9_firmNow (hlM X) _ _ _ _ _ e8) g9 rfl rfl q3833 q3835 qs108 q164 q3836 nh_X9 rfl (by decide) (by decide) (Nat.le_of_ble_eq_true rfl) dX9_setFirm_37) (fun v12 h13 => ?_)
    refine vv_rcv (fun b18 t9 c9 fs9 e19 g9 k9 => ?_)
    cases List.mem_singleton.mp k9
    refine vv_callI (pc := 40) (rest := []) (by rw [e19]; rfl) (fun r8 k8 e8 => zz_callV X (m_X9_recorded (hlM X) _ _ _ _ _ e8) g9 rfl rfl q4023 q4025 qs127 q164 q4026 nh_X9 rfl (by decide) (by decide) (Nat.le_of_ble_eq_true rfl) dX9_setFirm_40) (fun v16 h17 => ?_)
    exact vv_iretI X rfl rfl dX9_setFirm_43
  · refine vv_iconst (pc := 28) X dX9_setFirm_28 ?_
    exact vv_iretI X rfl rfl dX9_setFirm_29
noncomputable def f_X9_setFirm (a0 : Nat) (a1 : Int) (h : HP) : Option ((Int) × HP) :=
  (wrI h (some a0) [7] 7 0).bind fun h1 =>
  hb (f_X9_in a1 0 26 h1) fun v2 h3 =>
  iEQ v2 0
    (b_X9_setFirm_21 (some a0) a1 1 (some a0) h3)
    (b_X9_setFirm_21 (some a0) a1 0 (some a0) h3)
theorem A_X9_setFirm {M : hp_M} {G : va_G} {h0 : HP} (X : hp_X M G h0 "RenamedWordsModel" "setFirm" cX9_setFirm 2 (some .int) [] 9 272) (a0 : Nat) (a1 : Int) (h : HP) : vv M G h0 2 (hp_End M G h0) jI h 0 [(0, LR (some a0)), (1, LI a1)] [] (f_X9_setFirm a0 a1 h) := by
  unfold f_X9_setFirm
  refine vv_aload_n (pc := 0) X (kf := 0) (i := 0) rfl 0 rfl dX9_setFirm_0 ?_
  refine vv_iconst (pc := 1) X dX9_setFirm_1 ?_
  refine vv_putI (pc := 2) (fin := false) X (fun _ z => by cases List.mem_singleton.mp z; exact fl_X9_69_7) (fun z => nomatch z) (fun z => nomatch z) dX9_setFirm_2 (fun h1 => ?_)
  refine vv_aload_n (pc := 5) X (kf := 0) (i := 0) rfl 0 rfl dX9_setFirm_5 ?_
  refine vv_iload_n (pc := 6) X (kf := 1) (i := 1) rfl 1 rfl dX9_setFirm_6 ?_
  refine vv_iconst (pc := 7) X dX9_setFirm_7 ?_
  refine vv_bipush (pc := 8) X (by decide) dX9_setFirm_8 ?_
  refine vv_callI (pc := 10) (rest := [LR (some a0)]) (by rfl) (fun r8 k8 e8 => zz_callS X (m_X9_in (hlM X) _ _ _ _ _ _ e8) q3593 q3594 q164 q3595 nh_X9 rfl (by decide) (by decide) (Nat.le_of_ble_eq_true rfl) dX9_setFirm_10) (fun v2 h3 => ?_)
  refine vv_if_ne (pc := 13) (tgt := 20) X dX9_setFirm_13 rfl ?_ ?_
  · refine vv_iconst (pc := 20) X dX9_setFirm_20 ?_
    exact B_X9_setFirm_21 X _ _ _ _ _
  · refine vv_iconst (pc := 16) X dX9_setFirm_16 ?_
    refine vv_goto (pc := 17) (tgt := 21) X dX9_setFirm_17 rfl ?_
    exact B_X9_setFirm_21 X _ _ _ _ _
theorem m_X9_setFirm {l : Launch} (hl : l.stackTraces = false) {G : va_G} (a0 : Nat) (a1 : Int) (h : HP) : ∀ r hf, f_X9_setFirm a0 a1 h = some (r, hf) → Ct l yX9_setFirm (ws_ yX9_setFirm cX9_setFirm 2 (some .int)) 9 272 G h [.ref a0, .int (iI a1)] (jI r) hf :=
  zz_ofW hl (by decide +kernel) (lv := [(0, LR (some a0)), (1, LI a1)]) (by simp [lv_args, lvL, lvV, zz_rfc, zz_rfs, zz_ci, zz_cr, zz_cj, zz_cf, zz_cd]) (by simp [lg_sl, zz_rfc, zz_ci, zz_cr, zz_cj, zz_cf, zz_cd]) (fun _ X => A_X9_setFirm X a0 a1 h)
-- X1_report RenamedWords.report()I
noncomputable def c_X1_report_87 (r87 : Option Nat → Option Nat → Option Nat → HP → Option ((Int) × HP)) (x0 : Option Nat) (x1 : Option Nat) (x2 : Option Nat) (h : HP) : Option ((Int) × HP) :=
  (rcv h x2 [21]).bind fun b18 =>
  hb (f_X26_hasNext b18 h) fun v16 h17 =>
  iEQ v16 0
    ((rcv h17 x1 [25]).bind fun b22 =>
    hb (f_J10_toString b22 h17) fun v20 h21 =>
    (wrR h21 x0 [0] 8 v20).bind fun h24 =>
    (rdR h24 x0 [0] 8).bind fun v25 =>
    (rcv h24 v25 [26]).bind fun b28 =>
    hb (f_J11_length b28 h24) fun v26 h27 =>
    some (v26, h27))
    ((rcv h17 x2 [21]).bind fun b32 =>
    hb (f_X26_next b32 h17) fun v30 h31 =>
    (chk h31 v30 [22]).bind fun _ =>
    (rcv h31 x1 [25]).bind fun b36 =>
    hb (f_J10_append_3 b36 32 h31) fun v34 h35 =>
    (rdI h35 v30 [22] 1).bind fun v38 =>
    (rcv h35 v34 [25]).bind fun b41 =>
    hb (f_J10_append_2 b41 v38 h35) fun v39 h40 =>
    (rcv h40 v39 [25]).bind fun b45 =>
    hb (f_J10_append_3 b45 58 h40) fun v43 h44 =>
    (rdR h44 x0 [0] 0).bind fun v47 =>
    (rdR h44 v47 [1] 1).bind fun v48 =>
    (rdR h44 v48 [2] 1).bind fun v49 =>
    (rdI h44 v30 [22] 0).bind fun v50 =>
    (rcv h44 v49 [24]).bind fun b53 =>
    hb (f_J4_get b53 v50 h44) fun v51 h52 =>
    (chk h52 v51 [26]).bind fun _ =>
    (rcv h52 v43 [25]).bind fun b57 =>
    hb (f_J10_append b57 v51 h52) fun v55 h56 =>
    r87 x0 x1 x2 h56)
noncomputable def b_X1_report_87 : Option Nat → Option Nat → Option Nat → HP → Option ((Int) × HP) := fx (fun _ _ _ _ => none) (c_X1_report_87) FU
theorem C_X1_report_87 {M : hp_M} {G : va_G} {h0 : HP} (X : hp_X M G h0 "RenamedWords" "report" cX1_report 4 (some .int) [] 6 251) (r87 : Option Nat → Option Nat → Option Nat → HP → Option ((Int) × HP)) (hr87 : ∀ (y0 : Option Nat) (y1 : Option Nat) (y2 : Option Nat) (h : HP), vv M G h0 4 (hp_End M G h0) jI h 87 [(0, LR y0), (1, LR y1), (2, LR y2)] [] (r87 y0 y1 y2 h)) (x0 : Option Nat) (x1 : Option Nat) (x2 : Option Nat) (h : HP) : vv M G h0 4 (hp_End M G h0) jI h 87 [(0, LR x0), (1, LR x1), (2, LR x2)] [] (c_X1_report_87 r87 x0 x1 x2 h) := by
  unfold c_X1_report_87
  refine vv_aload_n (pc := 87) X (kf := 2) (i := 2) rfl 2 rfl dX1_report_87 ?_
  refine vv_rcv (fun b18 t9 c9 fs9 e19 g9 k9 => ?_)
  cases List.mem_singleton.mp k9
  refine vv_callI (pc := 88) (rest := []) (by rw [e19]; rfl) (fun r8 k8 e8 => zz_callF X (m_X26_hasNext (hlM X) _ _ _ _ e8) g9 rfl q2877 (List.mem_of_getElem? (i := 5) rfl) q2177 q2175 q191 q2179 nh_xjava_util_Iterator rfl (by decide) (by decide) (Nat.le_of_ble_eq_true rfl) dX1_report_88) (fun v16 h17 => ?_)
  refine vv_if_eq (pc := 93) (tgt := 153) X dX1_report_93 rfl ?_ ?_
  · refine vv_aload_n (pc := 153) X (kf := 0) (i := 0) rfl 0 rfl dX1_report_153 ?_
    refine vv_aload_n (pc := 154) X (kf := 1) (i := 1) rfl 1 rfl dX1_report_154 ?_
    refine vv_rcv (fun b22 t9 c9 fs9 e23 g9 k9 => ?_)
    cases List.mem_singleton.mp k9
    refine vv_callR (pc := 155) (rest := [LR x0]) (by rw [e23]; rfl) (fun r8 k8 e8 => zz_callV X (m_J10_toString (hlM X) _ _ _ _ e8) g9 rfl rfl q2978 q497 q498 q145 q499 nh_J10 rfl (by decide) (by decide) (Nat.le_of_ble_eq_true rfl) dX1_report_155) (fun v20 h21 => ?_)
    refine vv_putR (pc := 158) (ty9 := (.object "java/lang/String")) (fin := false) X (fun _ z => by cases List.mem_singleton.mp z; exact fl_X1_69_0) (fun z => nomatch z) (fun z => nomatch z) (by decide +kernel) rfl dX1_report_158 (fun h24 => ?_)
    refine vv_aload_n (pc := 161) X (kf := 0) (i := 0) rfl 0 rfl dX1_report_161 ?_
    refine vv_getR (pc := 162) X (fun _ z => by cases List.mem_singleton.mp z; exact fl_X1_69_0) dX1_report_162 (fun v25 => ?_)
    refine vv_rcv (fun b28 t9 c9 fs9 e29 g9 k9 => ?_)
    cases List.mem_singleton.mp k9
    refine vv_callI (pc := 165) (rest := []) (by rw [e29]; rfl) (fun r8 k8 e8 => zz_callV X (m_J11_length (hlM X) _ _ _ _ e8) g9 rfl rfl q2979 q429 q430 q146 q431 nh_J11 rfl (by decide) (by decide) (Nat.le_of_ble_eq_true rfl) dX1_report_165) (fun v26 h27 => ?_)
    exact vv_iretI X rfl rfl dX1_report_168
  · refine vv_aload_n (pc := 96) X (kf := 2) (i := 2) rfl 2 rfl dX1_report_96 ?_
    refine vv_rcv (fun b32 t9 c9 fs9 e33 g9 k9 => ?_)
    cases List.mem_singleton.mp k9
    refine vv_callR (pc := 97) (rest := []) (by rw [e33]; rfl) (fun r8 k8 e8 => zz_callF X (m_X26_next (hlM X) _ _ _ _ e8) g9 rfl q2879 (List.mem_of_getElem? (i := 6) rfl) q2209 q2207 q191 q2211 nh_xjava_util_Iterator rfl (by decide) (by decide) (Nat.le_of_ble_eq_true rfl) dX1_report_97) (fun v30 h31 => ?_)
    refine vv_checkcast (pc := 102) X ⟨q2880, (fun _ z => by cases List.mem_singleton.mp z; exact ⟨_, rfl, Or.inl rfl⟩)⟩ dX1_report_102 ?_
    refine vv_astore_n (pc := 105) (lv' := [(3, LR v30), (0, LR x0), (1, LR x1), (2, LR x2)]) X (kf := 3) (i := 3) rfl (by decide) rfl dX1_report_105 ?_
    refine vv_aload_n (pc := 106) X (kf := 1) (i := 1) rfl 2 rfl dX1_report_106 ?_
    refine vv_bipush (pc := 107) X (by decide) dX1_report_107 ?_
    refine vv_rcv (fun b36 t9 c9 fs9 e37 g9 k9 => ?_)
    cases List.mem_singleton.mp k9
    refine vv_callR (pc := 109) (rest := []) (by rw [e37]; rfl) (fun r8 k8 e8 => zz_callV X (m_J10_append_3 (hlM X) _ _ _ _ _ e8) g9 rfl rfl q2964 q878 q879 q145 q880 nh_J10 rfl (by decide) (by decide) (Nat.le_of_ble_eq_true rfl) dX1_report_109) (fun v34 h35 => ?_)
    refine vv_aload_n (pc := 112) X (kf := 3) (i := 3) rfl 0 rfl dX1_report_112 ?_
    refine vv_getI (pc := 113) X (fun _ z => by cases List.mem_singleton.mp z; exact fl_X1_301_22) dX1_report_113 (fun v38 => ?_)
    refine vv_rcv (fun b41 t9 c9 fs9 e42 g9 k9 => ?_)
    cases List.mem_singleton.mp k9
    refine vv_callR (pc := 116) (rest := []) (by rw [e42]; rfl) (fun r8 k8 e8 => zz_callV X (m_J10_append_2 (hlM X) _ _ _ _ _ e8) g9 rfl rfl q2965 q472 q473 q145 q474 nh_J10 rfl (by decide) (by decide) (Nat.le_of_ble_eq_true rfl) dX1_report_116) (fun v39 h40 => ?_)
    refine vv_bipush (pc := 119) X (by decide) dX1_report_119 ?_
    refine vv_rcv (fun b45 t9 c9 fs9 e46 g9 k9 => ?_)
    cases List.mem_singleton.mp k9
    refine vv_callR (pc := 121) (rest := []) (by rw [e46]; rfl) (fun r8 k8 e8 => zz_callV X (m_J10_append_3 (hlM X) _ _ _ _ _ e8) g9 rfl rfl q2964 q878 q879 q145 q880 nh_J10 rfl (by decide) (by decide) (Nat.le_of_ble_eq_true rfl) dX1_report_121) (fun v43 h44 => ?_)
    refine vv_aload_n (pc := 124) X (kf := 0) (i := 0) rfl 1 rfl dX1_report_124 ?_
    refine vv_getR (pc := 125) X (fun _ z => by cases List.mem_singleton.mp z; exact fl_X1_35_0) dX1_report_125 (fun v47 => ?_)
    refine vv_getR (pc := 128) X (fun _ z => by cases List.mem_singleton.mp z; exact fl_X1_276_1) dX1_report_128 (fun v48 => ?_)
    refine vv_getR (pc := 131) X (fun _ z => by cases List.mem_singleton.mp z; exact fl_X1_280_2) dX1_report_131 (fun v49 => ?_)
    refine vv_aload_n (pc := 134) X (kf := 3) (i := 3) rfl 0 rfl dX1_report_134 ?_
    refine vv_getI (pc := 135) X (fun _ z => by cases List.mem_singleton.mp z; exact fl_X1_306_22) dX1_report_135 (fun v50 => ?_)
    refine vv_rcv (fun b53 t9 c9 fs9 e54 g9 k9 => ?_)
    cases List.mem_singleton.mp k9
    refine vv_callR (pc := 138) (rest := [LR v43]) (by rw [e54]; rfl) (fun r8 k8 e8 => zz_callF X (m_J4_get (hlM X) _ _ _ _ _ e8) g9 rfl q2967 (List.mem_of_getElem? (i := 4) rfl) q2251 q2970 q139 q2252 nh_xjava_util_List rfl (by decide) (by decide) (Nat.le_of_ble_eq_true rfl) dX1_report_138) (fun v51 h52 => ?_)
    refine vv_checkcast (pc := 143) X ⟨q2976, (fun _ z => by cases List.mem_singleton.mp z; exact ⟨_, rfl, Or.inl rfl⟩)⟩ dX1_report_143 ?_
    refine vv_rcv (fun b57 t9 c9 fs9 e58 g9 k9 => ?_)
    cases List.mem_singleton.mp k9
    refine vv_callR (pc := 146) (rest := []) (by rw [e58]; rfl) (fun r8 k8 e8 => zz_callV X (m_J10_append (hlM X) _ _ _ _ _ e8) g9 rfl rfl q2977 q352 q353 q145 q354 nh_J10 rfl (by decide) (by decide) (Nat.le_of_ble_eq_true rfl) dX1_report_146) (fun v55 h56 => ?_)
    refine vv_pop (pc := 149) X rfl dX1_report_149 ?_
    refine vv_goto (pc := 150) (tgt := 87) X dX1_report_150 rfl ?_
    exact vv_sub [1, 2, 3] (by rfl) (hr87 _ _ _ _)
theorem B_X1_report_87 {M : hp_M} {G : va_G} {h0 : HP} (X : hp_X M G h0 "RenamedWords" "report" cX1_report 4 (some .int) [] 6 251) : ∀ (x0 : Option Nat) (x1 : Option Nat) (x2 : Option Nat) (h : HP), vv M G h0 4 (hp_End M G h0) jI h 87 [(0, LR x0), (1, LR x1), (2, LR x2)] [] (b_X1_report_87 x0 x1 x2 h) := by
  unfold b_X1_report_87
  generalize FU = n
  induction n with
  | zero => intro x0 x1 x2 h; exact vv_none
  | succ n ih => exact C_X1_report_87 X _ ih
noncomputable def b_X1_report_53 (r10 : Option Nat → Option Nat → Int → HP → Option ((Int) × HP)) (x0 : Option Nat) (x1 : Option Nat) (x2 : Int) (s0 : Int) (s1 : Option Nat) (h : HP) : Option ((Int) × HP) :=
  (rdR h x0 [0] 0).bind fun v67 =>
  (rdR h v67 [1] 0).bind fun v68 =>
  (rcv h v68 [3]).bind fun b71 =>
  hb (f_X5_at b71 x2 h) fun v69 h70 =>
  (rcv h70 s1 [25]).bind fun b75 =>
  hb (f_J10_append_3 b75 (iC (s0 + v69)) h70) fun v73 h74 =>
  r10 x0 x1 (x2 + 1) h74
theorem B_X1_report_53 {M : hp_M} {G : va_G} {h0 : HP} (X : hp_X M G h0 "RenamedWords" "report" cX1_report 4 (some .int) [] 6 251) (r10 : Option Nat → Option Nat → Int → HP → Option ((Int) × HP)) (hr10 : ∀ (y0 : Option Nat) (y1 : Option Nat) (y2 : Int) (h : HP), vv M G h0 4 (hp_End M G h0) jI h 10 [(0, LR y0), (1, LR y1), (2, LI y2)] [] (r10 y0 y1 y2 h)) (x0 : Option Nat) (x1 : Option Nat) (x2 : Int) (s0 : Int) (s1 : Option Nat) (h : HP) : vv M G h0 4 (hp_End M G h0) jI h 53 [(0, LR x0), (1, LR x1), (2, LI x2)] [LI s0, LR s1] (b_X1_report_53 r10 x0 x1 x2 s0 s1 h) := by
  unfold b_X1_report_53
  refine vv_aload_n (pc := 53) X (kf := 0) (i := 0) rfl 0 rfl dX1_report_53 ?_
  refine vv_getR (pc := 54) X (fun _ z => by cases List.mem_singleton.mp z; exact fl_X1_35_0) dX1_report_54 (fun v67 => ?_)
  refine vv_getR (pc := 57) X (fun _ z => by cases List.mem_singleton.mp z; exact fl_X1_79_1) dX1_report_57 (fun v68 => ?_)
  refine vv_iload_n (pc := 60) X (kf := 2) (i := 2) rfl 2 rfl dX1_report_60 ?_
  refine vv_rcv (fun b71 t9 c9 fs9 e72 g9 k9 => ?_)
  cases List.mem_singleton.mp k9
  refine vv_callI (pc := 61) (rest := [LI s0, LR s1]) (by rw [e72]; rfl) (fun r8 k8 e8 => zz_callV X (m_X5_at (hlM X) _ _ _ _ _ e8) g9 rfl rfl q2963 q2635 q4111 q157 q2636 nh_X5 rfl (by decide) (by decide) (Nat.le_of_ble_eq_true rfl) dX1_report_61) (fun v69 h70 => ?_)
  refine vv_iadd (pc := 64) X dX1_report_64 ?_
  refine vv_i2c (pc := 65) X dX1_report_65 ?_
  refine vv_rcv (fun b75 t9 c9 fs9 e76 g9 k9 => ?_)
  cases List.mem_singleton.mp k9
  refine vv_callR (pc := 66) (rest := []) (by rw [e76]; rfl) (fun r8 k8 e8 => zz_callV X (m_J10_append_3 (hlM X) _ _ _ _ _ e8) g9 rfl rfl q2964 q878 q879 q145 q880 nh_J10 rfl (by decide) (by decide) (Nat.le_of_ble_eq_true rfl) dX1_report_66) (fun v73 h74 => ?_)
  refine vv_pop (pc := 69) X rfl dX1_report_69 ?_
  refine vv_iinc (pc := 70) (lv' := [(2, LI (x2 + 1)), (0, LR x0), (1, LR x1)]) X 2 rfl (by decide) rfl dX1_report_70 ?_
  refine vv_goto (pc := 73) (tgt := 10) X dX1_report_73 rfl ?_
  exact vv_sub [1, 2, 0] (by rfl) (hr10 _ _ _ _)
noncomputable def c_X1_report_10 (r10 : Option Nat → Option Nat → Int → HP → Option ((Int) × HP)) (x0 : Option Nat) (x1 : Option Nat) (x2 : Int) (h : HP) : Option ((Int) × HP) :=
  (rdR h x0 [0] 0).bind fun v7 =>
  (rdR h v7 [1] 0).bind fun v8 =>
  (rdI h v8 [3] 3).bind fun v9 =>
  iLE v9 x2
    ((rdR h x0 [0] 0).bind fun v10 =>
    (rdR h v10 [1] 3).bind fun v11 =>
    (rcv h v11 [4]).bind fun b14 =>
    hb (f_X6_iterator b14 h) fun v12 h13 =>
    b_X1_report_87 x0 x1 v12 h13)
    ((rdR h x0 [0] 0).bind fun v59 =>
    (rdR h v59 [1] 0).bind fun v60 =>
    (rdR h x0 [0] 0).bind fun v61 =>
    (rdI h v61 [1] 7).bind fun v62 =>
    (rcv h v60 [3]).bind fun b65 =>
    hb (f_X4_isFirm_2 b65 x2 v62 h) fun v63 h64 =>
    iEQ v63 0
      (b_X1_report_53 r10 x0 x1 x2 65 x1 h64)
      (b_X1_report_53 r10 x0 x1 x2 97 x1 h64))
noncomputable def b_X1_report_10 : Option Nat → Option Nat → Int → HP → Option ((Int) × HP) := fx (fun _ _ _ _ => none) (c_X1_report_10) FU
theorem C_X1_report_10 {M : hp_M} {G : va_G} {h0 : HP} (X : hp_X M G h0 "RenamedWords" "report" cX1_report 4 (some .int) [] 6 251) (r10 : Option Nat → Option Nat → Int → HP → Option ((Int) × HP)) (hr10 : ∀ (y0 : Option Nat) (y1 : Option Nat) (y2 : Int) (h : HP), vv M G h0 4 (hp_End M G h0) jI h 10 [(0, LR y0), (1, LR y1), (2, LI y2)] [] (r10 y0 y1 y2 h)) (x0 : Option Nat) (x1 : Option Nat) (x2 : Int) (h : HP) : vv M G h0 4 (hp_End M G h0) jI h 10 [(0, LR x0), (1, LR x1), (2, LI x2)] [] (c_X1_report_10 r10 x0 x1 x2 h) := by
  unfold c_X1_report_10
  refine vv_iload_n (pc := 10) X (kf := 2) (i := 2) rfl 2 rfl dX1_report_10 ?_
  refine vv_aload_n (pc := 11) X (kf := 0) (i := 0) rfl 0 rfl dX1_report_11 ?_
  refine vv_getR (pc := 12) X (fun _ z => by cases List.mem_singleton.mp z; exact fl_X1_35_0) dX1_report_12 (fun v7 => ?_)
  refine vv_getR (pc := 15) X (fun _ z => by cases List.mem_singleton.mp z; exact fl_X1_79_1) dX1_report_15 (fun v8 => ?_)
  refine vv_getI (pc := 18) X (fun _ z => by cases List.mem_singleton.mp z; exact fl_X1_83_3) dX1_report_18 (fun v9 => ?_)
  refine vv_icmp_ge (pc := 21) (tgt := 76) X dX1_report_21 rfl ?_ ?_
  · refine vv_aload_n (pc := 76) X (kf := 0) (i := 0) rfl 0 rfl dX1_report_76 ?_
    refine vv_getR (pc := 77) X (fun _ z => by cases List.mem_singleton.mp z; exact fl_X1_35_0) dX1_report_77 (fun v10 => ?_)
    refine vv_getR (pc := 80) X (fun _ z => by cases List.mem_singleton.mp z; exact fl_X1_196_1) dX1_report_80 (fun v11 => ?_)
    refine vv_rcv (fun b14 t9 c9 fs9 e15 g9 k9 => ?_)
    cases List.mem_singleton.mp k9
    refine vv_callR (pc := 83) (rest := []) (by rw [e15]; rfl) (fun r8 k8 e8 => zz_callV X (m_X6_iterator (hlM X) _ _ _ _ e8) g9 rfl rfl q2875 q2148 q2149 q158 q2150 nh_X6 rfl (by decide) (by decide) (Nat.le_of_ble_eq_true rfl) dX1_report_83) (fun v12 h13 => ?_)
    refine vv_astore_n (pc := 86) (lv' := [(2, LR v12), (0, LR x0), (1, LR x1)]) X (kf := 2) (i := 2) rfl (by decide) rfl dX1_report_86 ?_
    exact vv_sub [1, 2, 0] (by rfl) (B_X1_report_87 X _ _ _ _)
  · refine vv_aload_n (pc := 24) X (kf := 1) (i := 1) rfl 1 rfl dX1_report_24 ?_
    refine vv_aload_n (pc := 25) X (kf := 0) (i := 0) rfl 0 rfl dX1_report_25 ?_
    refine vv_getR (pc := 26) X (fun _ z => by cases List.mem_singleton.mp z; exact fl_X1_35_0) dX1_report_26 (fun v59 => ?_)
    refine vv_getR (pc := 29) X (fun _ z => by cases List.mem_singleton.mp z; exact fl_X1_79_1) dX1_report_29 (fun v60 => ?_)
    refine vv_iload_n (pc := 32) X (kf := 2) (i := 2) rfl 2 rfl dX1_report_32 ?_
    refine vv_aload_n (pc := 33) X (kf := 0) (i := 0) rfl 0 rfl dX1_report_33 ?_
    refine vv_getR (pc := 34) X (fun _ z => by cases List.mem_singleton.mp z; exact fl_X1_35_0) dX1_report_34 (fun v61 => ?_)
    refine vv_getI (pc := 37) X (fun _ z => by cases List.mem_singleton.mp z; exact fl_X1_189_1) dX1_report_37 (fun v62 => ?_)
    refine vv_rcv (fun b65 t9 c9 fs9 e66 g9 k9 => ?_)
    cases List.mem_singleton.mp k9
    refine vv_callI (pc := 40) (rest := [LR x1]) (by rw [e66]; rfl) (fun r8 k8 e8 => zz_callU X (m_X4_isFirm_2 (hlM X) _ _ _ _ _ _ e8) g9 rfl q2960 q2961 (va_Decl.of (X.1.2.2.2.2 _ q2625) (X.1.2.2.2.2 _ q2630)) (by decide) q2625 q2962 q156 q2630 rfl (by decide) (by decide) (Nat.le_of_ble_eq_true rfl) dX1_report_40) (fun v63 h64 => ?_)
    refine vv_if_eq (pc := 43) (tgt := 51) X dX1_report_43 rfl ?_ ?_
    · refine vv_bipush (pc := 51) X (by decide) dX1_report_51 ?_
      exact B_X1_report_53 X r10 hr10 _ _ _ _ _ _
    · refine vv_bipush (pc := 46) X (by decide) dX1_report_46 ?_
      refine vv_goto (pc := 48) (tgt := 53) X dX1_report_48 rfl ?_
      exact B_X1_report_53 X r10 hr10 _ _ _ _ _ _
theorem B_X1_report_10 {M : hp_M} {G : va_G} {h0 : HP} (X : hp_X M G h0 "RenamedWords" "report" cX1_report 4 (some .int) [] 6 251) : ∀ (x0 : Option Nat) (x1 : Option Nat) (x2 : Int) (h : HP), vv M G h0 4 (hp_End M G h0) jI h 10 [(0, LR x0), (1, LR x1), (2, LI x2)] [] (b_X1_report_10 x0 x1 x2 h) := by
  unfold b_X1_report_10
  generalize FU = n
  induction n with
  | zero => intro x0 x1 x2 h; exact vv_none
  | succ n ih => exact C_X1_report_10 X _ ih
noncomputable def f_X1_report (a0 : Nat) (h : HP) : Option ((Int) × HP) :=
  hb (nwO h (hp_n h) 25 [.inr (.inl none), .inl 0, .inl 0, .inl 0] 4) fun v1 h2 =>
  (v1).bind fun b5 =>
  hb (f_J10_init b5 h2) fun _ h4 =>
  b_X1_report_10 (some a0) v1 0 h4
theorem A_X1_report {M : hp_M} {G : va_G} {h0 : HP} (X : hp_X M G h0 "RenamedWords" "report" cX1_report 4 (some .int) [] 6 251) (a0 : Nat) (h : HP) : vv M G h0 4 (hp_End M G h0) jI h 0 [(0, LR (some a0))] [] (f_X1_report a0 h) := by
  unfold f_X1_report
  refine vv_new (pc := 0) tyJ10 X rfl in_J10 tyJ10_ok q2958 q319 q145 ndJ10 (by decide) dX1_report_0 (fun v1 h2 => ?_)
  refine vv_dup (pc := 3) X rfl dX1_report_3 ?_
  refine vv_bnd (fun b5 e6 => ?_)
  refine vv_callV (pc := 4) (rest := [LR v1]) (by rw [e6]; rfl) (fun r8 k8 e8 => zz_callI X (m_J10_init (hlM X) _ _ _ _ e8) q2959 q321 q145 q322 rfl nh_J10 rfl (by decide) (by decide) (Nat.le_of_ble_eq_true rfl) dX1_report_4) (fun v3 h4 => ?_)
  refine vv_astore_n (pc := 7) (lv' := [(1, LR v1), (0, LR (some a0))]) X (kf := 1) (i := 1) rfl (by decide) rfl dX1_report_7 ?_
  refine vv_iconst (pc := 8) X dX1_report_8 ?_
  refine vv_istore_n (pc := 9) (lv' := [(2, LI 0), (1, LR v1), (0, LR (some a0))]) X (kf := 2) (i := 2) rfl (by decide) rfl dX1_report_9 ?_
  exact vv_sub [2, 1, 0] (by rfl) (B_X1_report_10 X _ _ _ _)
theorem m_X1_report {l : Launch} (hl : l.stackTraces = false) {G : va_G} (a0 : Nat) (h : HP) : ∀ r hf, f_X1_report a0 h = some (r, hf) → Ct l yX1_report (ws_ yX1_report cX1_report 4 (some .int)) 6 251 G h [.ref a0] (jI r) hf :=
  zz_ofW hl (by decide +kernel) (lv := [(0, LR (some a0))]) (by simp [lv_args, lvL, lvV, zz_rfc, zz_rfs, zz_ci, zz_cr, zz_cj, zz_cf, zz_cd]) (by simp [lg_sl, zz_rfc, zz_ci, zz_cr, zz_cj, zz_cf, zz_cd]) (fun _ X => A_X1_report X a0 h)
-- X9_writes RenamedWordsModel.writes(I)V
noncomputable def f_X9_writes (a0 : Nat) (a1 : Int) (h : HP) : Option ((Unit) × HP) :=
  (rdR h (some a0) [7] 32).bind fun v1 =>
  (rdI h (some a0) [7] 33).bind fun v2 =>
  (astI h .int v1 v2 a1).bind fun h3 =>
  (rdI h3 (some a0) [7] 33).bind fun v4 =>
  (wrI h3 (some a0) [7] 33 (v4 + 1)).bind fun h5 =>
  some ((), h5)
theorem A_X9_writes {M : hp_M} {G : va_G} {h0 : HP} (X : hp_X M G h0 "RenamedWordsModel" "writes" cX9_writes 2 none [] 0 0) (a0 : Nat) (a1 : Int) (h : HP) : vv M G h0 2 (hp_End M G h0) jV h 0 [(0, LR (some a0)), (1, LI a1)] [] (f_X9_writes a0 a1 h) := by
  unfold f_X9_writes
  refine vv_aload_n (pc := 0) X (kf := 0) (i := 0) rfl 0 rfl dX9_writes_0 ?_
  refine vv_getR (pc := 1) X (fun _ z => by cases List.mem_singleton.mp z; exact fl_X9_66_7) dX9_writes_1 (fun v1 => ?_)
  refine vv_aload_n (pc := 4) X (kf := 0) (i := 0) rfl 0 rfl dX9_writes_4 ?_
  refine vv_getI (pc := 5) X (fun _ z => by cases List.mem_singleton.mp z; exact fl_X9_433_7) dX9_writes_5 (fun v2 => ?_)
  refine vv_iload_n (pc := 8) X (kf := 1) (i := 1) rfl 1 rfl dX9_writes_8 ?_
  refine vv_iastore (pc := 9) X dX9_writes_9 (fun h3 => ?_)
  refine vv_aload_n (pc := 10) X (kf := 0) (i := 0) rfl 0 rfl dX9_writes_10 ?_
  refine vv_dup (pc := 11) X rfl dX9_writes_11 ?_
  refine vv_getI (pc := 12) X (fun _ z => by cases List.mem_singleton.mp z; exact fl_X9_433_7) dX9_writes_12 (fun v4 => ?_)
  refine vv_iconst (pc := 15) X dX9_writes_15 ?_
  refine vv_iadd (pc := 16) X dX9_writes_16 ?_
  refine vv_putI (pc := 17) (fin := false) X (fun _ z => by cases List.mem_singleton.mp z; exact fl_X9_433_7) (fun z => nomatch z) (fun z => nomatch z) dX9_writes_17 (fun h5 => ?_)
  exact vv_vreturn X rfl rfl dX9_writes_20
theorem m_X9_writes {l : Launch} (hl : l.stackTraces = false) {G : va_G} (a0 : Nat) (a1 : Int) (h : HP) : ∀ r hf, f_X9_writes a0 a1 h = some (r, hf) → Ct l yX9_writes (ws_ yX9_writes cX9_writes 2 none) 0 0 G h [.ref a0, .int (iI a1)] (jV r) hf :=
  zz_ofW hl (by decide +kernel) (lv := [(0, LR (some a0)), (1, LI a1)]) (by simp [lv_args, lvL, lvV, zz_rfc, zz_rfs, zz_ci, zz_cr, zz_cj, zz_cf, zz_cd]) (by simp [lg_sl, zz_rfc, zz_ci, zz_cr, zz_cj, zz_cf, zz_cd]) (fun _ X => A_X9_writes X a0 a1 h)
-- X9_writesNumber RenamedWordsModel.writesNumber(I)V
noncomputable def c_X9_writesNumber_18 (r18 : Option Nat → Int → Int → HP → Option ((Unit) × HP)) (x0 : Option Nat) (x1 : Int) (x2 : Int) (h : HP) : Option ((Unit) × HP) :=
  iLE x2 0
    (some ((), h))
    ((iDV x1 x2).bind fun v2 =>
    (iRM v2 10).bind fun v3 =>
    (rcv h x0 [7]).bind fun b6 =>
    hb (f_X9_writes b6 (48 + v3) h) fun _ h5 =>
    (iDV x2 10).bind fun v8 =>
    r18 x0 x1 v8 h5)
noncomputable def b_X9_writesNumber_18 : Option Nat → Int → Int → HP → Option ((Unit) × HP) := fx (fun _ _ _ _ => none) (c_X9_writesNumber_18) FU
theorem C_X9_writesNumber_18 {M : hp_M} {G : va_G} {h0 : HP} (X : hp_X M G h0 "RenamedWordsModel" "writesNumber" cX9_writesNumber 3 none [] 1 29) (r18 : Option Nat → Int → Int → HP → Option ((Unit) × HP)) (hr18 : ∀ (y0 : Option Nat) (y1 : Int) (y2 : Int) (h : HP), vv M G h0 3 (hp_End M G h0) jV h 18 [(0, LR y0), (1, LI y1), (2, LI y2)] [] (r18 y0 y1 y2 h)) (x0 : Option Nat) (x1 : Int) (x2 : Int) (h : HP) : vv M G h0 3 (hp_End M G h0) jV h 18 [(0, LR x0), (1, LI x1), (2, LI x2)] [] (c_X9_writesNumber_18 r18 x0 x1 x2 h) := by
  unfold c_X9_writesNumber_18
  refine vv_iload_n (pc := 18) X (kf := 2) (i := 2) rfl 2 rfl dX9_writesNumber_18 ?_
  refine vv_if_le (pc := 19) (tgt := 43) X dX9_writesNumber_19 rfl ?_ ?_
  · exact vv_vreturn X rfl rfl dX9_writesNumber_43
  · refine vv_aload_n (pc := 22) X (kf := 0) (i := 0) rfl 0 rfl dX9_writesNumber_22 ?_
    refine vv_bipush (pc := 23) X (by decide) dX9_writesNumber_23 ?_
    refine vv_iload_n (pc := 25) X (kf := 1) (i := 1) rfl 1 rfl dX9_writesNumber_25 ?_
    refine vv_iload_n (pc := 26) X (kf := 2) (i := 2) rfl 2 rfl dX9_writesNumber_26 ?_
    refine vv_idiv (pc := 27) X dX9_writesNumber_27 (fun v2 => ?_)
    refine vv_bipush (pc := 28) X (by decide) dX9_writesNumber_28 ?_
    refine vv_irem (pc := 30) X dX9_writesNumber_30 (fun v3 => ?_)
    refine vv_iadd (pc := 31) X dX9_writesNumber_31 ?_
    refine vv_rcv (fun b6 t9 c9 fs9 e7 g9 k9 => ?_)
    cases List.mem_singleton.mp k9
    refine vv_callV (pc := 32) (rest := []) (by rw [e7]; rfl) (fun r8 k8 e8 => zz_callV X (m_X9_writes (hlM X) _ _ _ _ _ e8) g9 rfl rfl q4059 q4061 qs128 q164 q4062 nh_X9 rfl (by decide) (by decide) (Nat.le_of_ble_eq_true rfl) dX9_writesNumber_32) (fun v4 h5 => ?_)
    refine vv_iload_n (pc := 35) X (kf := 2) (i := 2) rfl 2 rfl dX9_writesNumber_35 ?_
    refine vv_bipush (pc := 36) X (by decide) dX9_writesNumber_36 ?_
    refine vv_idiv (pc := 38) X dX9_writesNumber_38 (fun v8 => ?_)
    refine vv_istore_n (pc := 39) (lv' := [(2, LI v8), (0, LR x0), (1, LI x1)]) X (kf := 2) (i := 2) rfl (by decide) rfl dX9_writesNumber_39 ?_
    refine vv_goto (pc := 40) (tgt := 18) X dX9_writesNumber_40 rfl ?_
    exact vv_sub [1, 2, 0] (by rfl) (hr18 _ _ _ _)
theorem B_X9_writesNumber_18 {M : hp_M} {G : va_G} {h0 : HP} (X : hp_X M G h0 "RenamedWordsModel" "writesNumber" cX9_writesNumber 3 none [] 1 29) : ∀ (x0 : Option Nat) (x1 : Int) (x2 : Int) (h : HP), vv M G h0 3 (hp_End M G h0) jV h 18 [(0, LR x0), (1, LI x1), (2, LI x2)] [] (b_X9_writesNumber_18 x0 x1 x2 h) := by
  unfold b_X9_writesNumber_18
  generalize FU = n
  induction n with
  | zero => intro x0 x1 x2 h; exact vv_none
  | succ n ih => exact C_X9_writesNumber_18 X _ ih
noncomputable def c_X9_writesNumber_2 (r2 : Option Nat → Int → Int → HP → Option ((Unit) × HP)) (x0 : Option Nat) (x1 : Int) (x2 : Int) (h : HP) : Option ((Unit) × HP) :=
  (iDV x1 x2).bind fun v1 =>
  iLE v1 9
    (b_X9_writesNumber_18 x0 x1 x2 h)
    (r2 x0 x1 (x2 * 10) h)
noncomputable def b_X9_writesNumber_2 : Option Nat → Int → Int → HP → Option ((Unit) × HP) := fx (fun _ _ _ _ => none) (c_X9_writesNumber_2) FU
theorem C_X9_writesNumber_2 {M : hp_M} {G : va_G} {h0 : HP} (X : hp_X M G h0 "RenamedWordsModel" "writesNumber" cX9_writesNumber 3 none [] 1 29) (r2 : Option Nat → Int → Int → HP → Option ((Unit) × HP)) (hr2 : ∀ (y0 : Option Nat) (y1 : Int) (y2 : Int) (h : HP), vv M G h0 3 (hp_End M G h0) jV h 2 [(0, LR y0), (1, LI y1), (2, LI y2)] [] (r2 y0 y1 y2 h)) (x0 : Option Nat) (x1 : Int) (x2 : Int) (h : HP) : vv M G h0 3 (hp_End M G h0) jV h 2 [(0, LR x0), (1, LI x1), (2, LI x2)] [] (c_X9_writesNumber_2 r2 x0 x1 x2 h) := by
  unfold c_X9_writesNumber_2
  refine vv_iload_n (pc := 2) X (kf := 1) (i := 1) rfl 1 rfl dX9_writesNumber_2 ?_
  refine vv_iload_n (pc := 3) X (kf := 2) (i := 2) rfl 2 rfl dX9_writesNumber_3 ?_
  refine vv_idiv (pc := 4) X dX9_writesNumber_4 (fun v1 => ?_)
  refine vv_bipush (pc := 5) X (by decide) dX9_writesNumber_5 ?_
  refine vv_icmp_le (pc := 7) (tgt := 18) X dX9_writesNumber_7 rfl ?_ ?_
  · exact B_X9_writesNumber_18 X _ _ _ _
  · refine vv_iload_n (pc := 10) X (kf := 2) (i := 2) rfl 2 rfl dX9_writesNumber_10 ?_
    refine vv_bipush (pc := 11) X (by decide) dX9_writesNumber_11 ?_
    refine vv_imul (pc := 13) X dX9_writesNumber_13 ?_
    refine vv_istore_n (pc := 14) (lv' := [(2, LI (x2 * 10)), (0, LR x0), (1, LI x1)]) X (kf := 2) (i := 2) rfl (by decide) rfl dX9_writesNumber_14 ?_
    refine vv_goto (pc := 15) (tgt := 2) X dX9_writesNumber_15 rfl ?_
    exact vv_sub [1, 2, 0] (by rfl) (hr2 _ _ _ _)
theorem B_X9_writesNumber_2 {M : hp_M} {G : va_G} {h0 : HP} (X : hp_X M G h0 "RenamedWordsModel" "writesNumber" cX9_writesNumber 3 none [] 1 29) : ∀ (x0 : Option Nat) (x1 : Int) (x2 : Int) (h : HP), vv M G h0 3 (hp_End M G h0) jV h 2 [(0, LR x0), (1, LI x1), (2, LI x2)] [] (b_X9_writesNumber_2 x0 x1 x2 h) := by
  unfold b_X9_writesNumber_2
  generalize FU = n
  induction n with
  | zero => intro x0 x1 x2 h; exact vv_none
  | succ n ih => exact C_X9_writesNumber_2 X _ ih
noncomputable def f_X9_writesNumber (a0 : Nat) (a1 : Int) (h : HP) : Option ((Unit) × HP) :=
  b_X9_writesNumber_2 (some a0) a1 1 h
theorem A_X9_writesNumber {M : hp_M} {G : va_G} {h0 : HP} (X : hp_X M G h0 "RenamedWordsModel" "writesNumber" cX9_writesNumber 3 none [] 1 29) (a0 : Nat) (a1 : Int) (h : HP) : vv M G h0 3 (hp_End M G h0) jV h 0 [(0, LR (some a0)), (1, LI a1)] [] (f_X9_writesNumber a0 a1 h) := by
  unfold f_X9_writesNumber
  refine vv_iconst (pc := 0) X dX9_writesNumber_0 ?_
  refine vv_istore_n (pc := 1) (lv' := [(2, LI 1), (0, LR (some a0)), (1, LI a1)]) X (kf := 2) (i := 2) rfl (by decide) rfl dX9_writesNumber_1 ?_
  exact vv_sub [1, 2, 0] (by rfl) (B_X9_writesNumber_2 X _ _ _ _)
theorem m_X9_writesNumber {l : Launch} (hl : l.stackTraces = false) {G : va_G} (a0 : Nat) (a1 : Int) (h : HP) : ∀ r hf, f_X9_writesNumber a0 a1 h = some (r, hf) → Ct l yX9_writesNumber (ws_ yX9_writesNumber cX9_writesNumber 3 none) 1 29 G h [.ref a0, .int (iI a1)] (jV r) hf :=
  zz_ofW hl (by decide +kernel) (lv := [(0, LR (some a0)), (1, LI a1)]) (by simp [lv_args, lvL, lvV, zz_rfc, zz_rfs, zz_ci, zz_cr, zz_cj, zz_cf, zz_cd]) (by simp [lg_sl, zz_rfc, zz_ci, zz_cr, zz_cj, zz_cf, zz_cd]) (fun _ X => A_X9_writesNumber X a0 a1 h)
