/-! STAGE 1c: functions and contracts (printed by gen/mkfuncs.py). -/
set_option maxRecDepth 100000
set_option linter.unusedVariables false
-- X1_mark RenamedWords.mark(I)I
noncomputable def f_X1_mark (a0 : Nat) (a1 : Int) (h : HP) : Option ((Nat ⊕ Int) × HP) :=
  (rcv h (some a0) [0]).bind fun b3 =>
  hbx (f_X1_patternAt b3 a1 h) (fun q5 h6 =>
      some (.inl q5, h6)) fun v1 h2 =>
  (rcv h2 (some a0) [0]).bind fun b9 =>
  hb (f_X1_copied b9 h2) fun v7 h8 =>
  (rdR h8 (some a0) [0] 0).bind fun v11 =>
  (rcv h8 v11 [1]).bind fun b14 =>
  hb (f_X2_marks b14 a1 h8) fun v12 h13 =>
  (rcv h13 (some a0) [0]).bind fun b18 =>
  hb (f_X1_made b18 v7 v12 h13) fun v16 h17 =>
  some (.inr v16, h17)
theorem A_X1_mark {M : hp_M} {G : va_G} {h0 : HP} (X : hp_X M G h0 "RenamedWords" "mark" cX1_mark 3 (some .int) [] 9 275) (a0 : Nat) (a1 : Int) (h : HP) : vv M G h0 3 (hp_End M G h0) xI h 0 [(0, LR (some a0)), (1, LI a1)] [] (f_X1_mark a0 a1 h) := by
  unfold f_X1_mark
  refine vv_aload_n (pc := 0) X (kf := 0) (i := 0) rfl 0 rfl dX1_mark_0 ?_
  refine vv_iload_n (pc := 1) X (kf := 1) (i := 1) rfl 1 rfl dX1_mark_1 ?_
  refine vv_rcv (fun b3 t9 c9 fs9 e4 g9 k9 => ?_)
  cases List.mem_singleton.mp k9
  refine vv_xallR (pc := 2) (rest := []) (by rw [e4]; rfl) (fun r8 k8 e8 => zz_callV X (m_X1_patternAt (hlM X) _ _ _ _ _ e8) g9 rfl rfl q3102 q3104 qs47 q132 q3105 nh_X1 rfl (by decide) (by decide) (Nat.le_of_ble_eq_true rfl) dX1_mark_2) (fun v1 h2 => ?_) (fun q5 h6 => ?_)
  · refine vv_astore_n (pc := 5) (lv' := [(2, LR v1), (0, LR (some a0)), (1, LI a1)]) X (kf := 2) (i := 2) rfl (by decide) rfl dX1_mark_5 ?_
    refine vv_aload_n (pc := 6) X (kf := 0) (i := 0) rfl 1 rfl dX1_mark_6 ?_
    refine vv_aload_n (pc := 7) X (kf := 0) (i := 0) rfl 1 rfl dX1_mark_7 ?_
    refine vv_rcv (fun b9 t9 c9 fs9 e10 g9 k9 => ?_)
    cases List.mem_singleton.mp k9
    refine vv_callR (pc := 8) (rest := [LR (some a0)]) (by rw [e10]; rfl) (fun r8 k8 e8 => zz_callV X (m_X1_copied (hlM X) _ _ _ _ e8) g9 rfl rfl q2119 q2121 qs23 q132 q2122 nh_X1 rfl (by decide) (by decide) (Nat.le_of_ble_eq_true rfl) dX1_mark_8) (fun v7 h8 => ?_)
    refine vv_aload_n (pc := 11) X (kf := 0) (i := 0) rfl 1 rfl dX1_mark_11 ?_
    refine vv_getR (pc := 12) X (fun _ z => by cases List.mem_singleton.mp z; exact fl_X1_35_0) dX1_mark_12 (fun v11 => ?_)
    refine vv_iload_n (pc := 15) X (kf := 1) (i := 1) rfl 2 rfl dX1_mark_15 ?_
    refine vv_rcv (fun b14 t9 c9 fs9 e15 g9 k9 => ?_)
    cases List.mem_singleton.mp k9
    refine vv_callI (pc := 16) (rest := [LR v7, LR (some a0)]) (by rw [e15]; rfl) (fun r8 k8 e8 => zz_callV X (m_X2_marks (hlM X) _ _ _ _ _ e8) g9 rfl rfl q3386 q2778 q2779 q133 q2780 nh_X2 rfl (by decide) (by decide) (Nat.le_of_ble_eq_true rfl) dX1_mark_16) (fun v12 h13 => ?_)
    refine vv_rcv (fun b18 t9 c9 fs9 e19 g9 k9 => ?_)
    cases List.mem_singleton.mp k9
    refine vv_callI (pc := 19) (rest := []) (by rw [e19]; rfl) (fun r8 k8 e8 => zz_callV X (m_X1_made (hlM X) _ _ _ _ _ _ e8) g9 rfl rfl q3359 q3361 qs49 q132 q3362 nh_X1 rfl (by decide) (by decide) (Nat.le_of_ble_eq_true rfl) dX1_mark_19) (fun v16 h17 => ?_)
    exact vv_iretI X rfl rfl dX1_mark_22
  · exact vvx_out X (by decide) rfl
theorem m_X1_mark {l : Launch} (hl : l.stackTraces = false) {G : va_G} (a0 : Nat) (a1 : Int) (h : HP) : ∀ r hf, f_X1_mark a0 a1 h = some (r, hf) → Ct l yX1_mark (ws_ yX1_mark cX1_mark 3 (some .int)) 9 275 G h [.ref a0, .int (iI a1)] (xI r) hf :=
  zz_ofW hl (by decide +kernel) (lv := [(0, LR (some a0)), (1, LI a1)]) (by simp [lv_args, lvL, lvV, zz_rfc, zz_rfs, zz_ci, zz_cr, zz_cj, zz_cf, zz_cd]) (by simp [lg_sl, zz_rfc, zz_ci, zz_cr, zz_cj, zz_cf, zz_cd]) (fun _ X => A_X1_mark X a0 a1 h)
-- X0_mark RenamedWordsLaw.mark(LRenamedWords;I[J)I
noncomputable def b_X0_mark_12 (s0 : Option Nat) (h : HP) : Option ((Int) × HP) :=
  some (1, h)
theorem B_X0_mark_12 {M : hp_M} {G : va_G} {h0 : HP} (X : hp_X M G h0 "RenamedWordsLaw" "mark" cX0_mark 4 (some .int) (tableOf [(0, 9, 12, 18)]) 10 305) (s0 : Option Nat) (h : HP) : vv M G h0 4 (hp_End M G h0) jI h 12 [] [LR s0] (b_X0_mark_12 s0 h) := by
  unfold b_X0_mark_12
  refine vv_astore_n (pc := 12) (lv' := [(3, LR s0)]) X (kf := 3) (i := 3) rfl (by decide) rfl dX0_mark_12 ?_
  refine vv_iconst (pc := 13) X dX0_mark_13 ?_
  exact vv_iretI X rfl rfl dX0_mark_14
noncomputable def f_X0_mark (a1 : Option Nat) (a2 : Int) (a3 : Option Nat) (h : HP) : Option ((Int) × HP) :=
  (rcv h a1 [0]).bind fun b3 =>
  hbx (f_X1_mark b3 a2 h) (fun q5 h6 =>
      (clsOf h6 q5).bind fun c7 =>
      if c7 = 35 then
        b_X0_mark_12 (some q5) h6
      else
        none) fun v1 h2 =>
  (astJ h2 a3 0 (iL v1)).bind fun h8 =>
  some (0, h8)
theorem A_X0_mark {M : hp_M} {G : va_G} {h0 : HP} (X : hp_X M G h0 "RenamedWordsLaw" "mark" cX0_mark 4 (some .int) (tableOf [(0, 9, 12, 18)]) 10 305) (a1 : Option Nat) (a2 : Int) (a3 : Option Nat) (h : HP) : vv M G h0 4 (hp_End M G h0) jI h 0 [(0, LR a1), (1, LI a2), (2, LR a3)] [] (f_X0_mark a1 a2 a3 h) := by
  unfold f_X0_mark
  refine vv_aload_n (pc := 0) X (kf := 2) (i := 2) rfl 2 rfl dX0_mark_0 ?_
  refine vv_iconst (pc := 1) X dX0_mark_1 ?_
  refine vv_aload_n (pc := 2) X (kf := 0) (i := 0) rfl 0 rfl dX0_mark_2 ?_
  refine vv_iload_n (pc := 3) X (kf := 1) (i := 1) rfl 1 rfl dX0_mark_3 ?_
  refine vv_rcv (fun b3 t9 c9 fs9 e4 g9 k9 => ?_)
  cases List.mem_singleton.mp k9
  refine vv_xallI (pc := 4) (rest := [LI 0, LR a3]) (by rw [e4]; rfl) (fun r8 k8 e8 => zz_callV X (m_X1_mark (hlM X) _ _ _ _ _ e8) g9 rfl rfl q3382 q3383 q3384 q132 q3385 nh_X1 rfl (by decide) (by decide) (Nat.le_of_ble_eq_true rfl) dX0_mark_4) (fun v1 h2 => ?_) (fun q5 h6 => ?_)
  · refine vv_i2l (pc := 7) X dX0_mark_7 ?_
    refine vv_lastore (pc := 8) X dX0_mark_8 (fun h8 => ?_)
    refine vv_goto (pc := 9) (tgt := 15) X dX0_mark_9 rfl ?_
    refine vv_iconst (pc := 15) X dX0_mark_15 ?_
    exact vv_iretI X rfl rfl dX0_mark_16
  · refine vvx_cls (fun _ c7 _ g9 => ?_)
    refine vvx_if (fun e9 => ?_) (fun _ => ?_)
    · subst e9
      refine vvx_catch X g9 rfl [] ⟨0, 9, 12, 18⟩ [] rfl (fun z hz => nomatch hz) rfl (by decide) q3041 q2274 ?_
      exact vv_sub [] (by rfl) (B_X0_mark_12 X _ _)
    · exact vvx_none
theorem m_X0_mark {l : Launch} (hl : l.stackTraces = false) {G : va_G} (a1 : Option Nat) (a2 : Int) (a3 : Option Nat) (h : HP) : ∀ r hf, f_X0_mark a1 a2 a3 h = some (r, hf) → Ct l yX0_mark (wsW_ yX0_mark cX0_mark 4 (some .int) [(0, 9, 12, 18)]) 10 305 G h [va_rf a1, .int (iI a2), va_rf a3] (jI r) hf :=
  zz_ofWH hl (by decide +kernel) (lv := [(0, LR a1), (1, LI a2), (2, LR a3)]) (by simp [lv_args, lvL, lvV, zz_rfc, zz_rfs, zz_ci, zz_cr, zz_cj, zz_cf, zz_cd]) (by simp [lg_sl, zz_rfc, zz_ci, zz_cr, zz_cj, zz_cf, zz_cd]) (fun _ X => A_X0_mark X a1 a2 a3 h)
-- X9_mark RenamedWordsModel.mark(I)I
noncomputable def f_X9_mark (a0 : Nat) (a1 : Int) (h : HP) : Option ((Int) × HP) :=
  (wrI h (some a0) [7] 7 0).bind fun h1 =>
  (rcv h1 (some a0) [7]).bind fun b4 =>
  hb (f_X9_noPattern b4 a1 h1) fun v2 h3 =>
  iEQ v2 0
    ((rcv h3 (some a0) [7]).bind fun b8 =>
    hb (f_X9_holds b8 h3) fun _ h7 =>
    (rcv h7 (some a0) [7]).bind fun b12 =>
    hb (f_X9_markNow b12 a1 h7) fun v10 h11 =>
    (rcv h11 (some a0) [7]).bind fun b16 =>
    hb (f_X9_recorded b16 v10 h11) fun v14 h15 =>
    some (v14, h15))
    (some (0, h3))
theorem A_X9_mark {M : hp_M} {G : va_G} {h0 : HP} (X : hp_X M G h0 "RenamedWordsModel" "mark" cX9_mark 2 (some .int) [] 7 214) (a0 : Nat) (a1 : Int) (h : HP) : vv M G h0 2 (hp_End M G h0) jI h 0 [(0, LR (some a0)), (1, LI a1)] [] (f_X9_mark a0 a1 h) := by
  unfold f_X9_mark
  refine vv_aload_n (pc := 0) X (kf := 0) (i := 0) rfl 0 rfl dX9_mark_0 ?_
  refine vv_iconst (pc := 1) X dX9_mark_1 ?_
  refine vv_putI (pc := 2) (fin := false) X (fun _ z => by cases List.mem_singleton.mp z; exact fl_X9_69_7) (fun z => nomatch z) (fun z => nomatch z) dX9_mark_2 (fun h1 => ?_)
  refine vv_aload_n (pc := 5) X (kf := 0) (i := 0) rfl 0 rfl dX9_mark_5 ?_
  refine vv_iload_n (pc := 6) X (kf := 1) (i := 1) rfl 1 rfl dX9_mark_6 ?_
  refine vv_rcv (fun b4 t9 c9 fs9 e5 g9 k9 => ?_)
  cases List.mem_singleton.mp k9
  refine vv_callI (pc := 7) (rest := []) (by rw [e5]; rfl) (fun r8 k8 e8 => zz_callV X (m_X9_noPattern (hlM X) _ _ _ _ _ e8) g9 rfl rfl q3876 q3878 qs113 q164 q3879 nh_X9 rfl (by decide) (by decide) (Nat.le_of_ble_eq_true rfl) dX9_mark_7) (fun v2 h3 => ?_)
  refine vv_if_eq (pc := 10) (tgt := 15) X dX9_mark_10 rfl ?_ ?_
  · refine vv_aload_n (pc := 15) X (kf := 0) (i := 0) rfl 0 rfl dX9_mark_15 ?_
    refine vv_rcv (fun b8 t9 c9 fs9 e9 g9 k9 => ?_)
    cases List.mem_singleton.mp k9
    refine vv_callV (pc := 16) (rest := []) (by rw [e9]; rfl) (fun r8 k8 e8 => zz_callV X (m_X9_holds (hlM X) _ _ _ _ e8) g9 rfl rfl q4019 q4021 qs126 q164 q4022 nh_X9 rfl (by decide) (by decide) (Nat.le_of_ble_eq_true rfl) dX9_mark_16) (fun v6 h7 => ?_)
    refine vv_aload_n (pc := 19) X (kf := 0) (i := 0) rfl 0 rfl dX9_mark_19 ?_
    refine vv_aload_n (pc := 20) X (kf := 0) (i := 0) rfl 0 rfl dX9_mark_20 ?_
    refine vv_iload_n (pc := 21) X (kf := 1) (i := 1) rfl 1 rfl dX9_mark_21 ?_
    refine vv_rcv (fun b12 t9 c9 fs9 e13 g9 k9 => ?_)
    cases List.mem_singleton.mp k9
    refine vv_callI (pc := 22) (rest := [LR (some a0)]) (by rw [e13]; rfl) (fun r8 k8 e8 => zz_callV X (m_X9_markNow (hlM X) _ _ _ _ _ e8) g9 rfl rfl q3813 q3815 qs103 q164 q3816 nh_X9 rfl (by decide) (by decide) (Nat.le_of_ble_eq_true rfl) dX9_mark_22) (fun v10 h11 => ?_)
    refine vv_rcv (fun b16 t9 c9 fs9 e17 g9 k9 => ?_)
    cases List.mem_singleton.mp k9
    refine vv_callI (pc := 25) (rest := []) (by rw [e17]; rfl) (fun r8 k8 e8 => zz_callV X (m_X9_recorded (hlM X) _ _ _ _ _ e8) g9 rfl rfl q4023 q4025 qs127 q164 q4026 nh_X9 rfl (by decide) (by decide) (Nat.le_of_ble_eq_true rfl) dX9_mark_25) (fun v14 h15 => ?_)
    exact vv_iretI X rfl rfl dX9_mark_28
  · refine vv_iconst (pc := 13) X dX9_mark_13 ?_
    exact vv_iretI X rfl rfl dX9_mark_14
theorem m_X9_mark {l : Launch} (hl : l.stackTraces = false) {G : va_G} (a0 : Nat) (a1 : Int) (h : HP) : ∀ r hf, f_X9_mark a0 a1 h = some (r, hf) → Ct l yX9_mark (ws_ yX9_mark cX9_mark 2 (some .int)) 7 214 G h [.ref a0, .int (iI a1)] (jI r) hf :=
  zz_ofW hl (by decide +kernel) (lv := [(0, LR (some a0)), (1, LI a1)]) (by simp [lv_args, lvL, lvV, zz_rfc, zz_rfs, zz_ci, zz_cr, zz_cj, zz_cf, zz_cd]) (by simp [lg_sl, zz_rfc, zz_ci, zz_cr, zz_cj, zz_cf, zz_cd]) (fun _ X => A_X9_mark X a0 a1 h)
-- X1_unmark RenamedWords.unmark(I)I
noncomputable def f_X1_unmark (a0 : Nat) (a1 : Int) (h : HP) : Option ((Nat ⊕ Int) × HP) :=
  hb (f_X1_in (iL a1) 0 (59 : Int64) h) fun v1 h2 =>
  hbx (f_X1_argument v1 h2) (fun q5 h6 =>
      some (.inl q5, h6)) fun _ h4 =>
  (rcv h4 (some a0) [0]).bind fun b9 =>
  hb (f_X1_copied b9 h4) fun v7 h8 =>
  (rdR h8 (some a0) [0] 0).bind fun v11 =>
  (rcv h8 v11 [1]).bind fun b14 =>
  hb (f_X2_unmarks b14 a1 h8) fun v12 h13 =>
  (rcv h13 (some a0) [0]).bind fun b18 =>
  hb (f_X1_made b18 v7 v12 h13) fun v16 h17 =>
  some (.inr v16, h17)
theorem A_X1_unmark {M : hp_M} {G : va_G} {h0 : HP} (X : hp_X M G h0 "RenamedWords" "unmark" cX1_unmark 2 (some .int) [] 7 216) (a0 : Nat) (a1 : Int) (h : HP) : vv M G h0 2 (hp_End M G h0) xI h 0 [(0, LR (some a0)), (1, LI a1)] [] (f_X1_unmark a0 a1 h) := by
  unfold f_X1_unmark
  refine vv_iload_n (pc := 0) X (kf := 1) (i := 1) rfl 1 rfl dX1_unmark_0 ?_
  refine vv_i2l (pc := 1) X dX1_unmark_1 ?_
  refine vv_lconst (pc := 2) (v := 0) X (by decide) dX1_unmark_2 ?_
  refine vv_ldc2 (pc := 3) X q3394 dX1_unmark_3 ?_
  refine vv_callI (pc := 6) (rest := []) (by rfl) (fun r8 k8 e8 => zz_callS X (m_X1_in (hlM X) _ _ _ _ _ _ e8) q2984 q873 q132 q874 nh_X1 rfl (by decide) (by decide) (Nat.le_of_ble_eq_true rfl) dX1_unmark_6) (fun v1 h2 => ?_)
  refine vv_xallV (pc := 9) (rest := []) (by rfl) (fun r8 k8 e8 => zz_callS X (m_X1_argument (hlM X) _ _ _ _ e8) q3090 q3091 q132 q3092 nh_X1 rfl (by decide) (by decide) (Nat.le_of_ble_eq_true rfl) dX1_unmark_9) (fun v3 h4 => ?_) (fun q5 h6 => ?_)
  · refine vv_aload_n (pc := 12) X (kf := 0) (i := 0) rfl 0 rfl dX1_unmark_12 ?_
    refine vv_aload_n (pc := 13) X (kf := 0) (i := 0) rfl 0 rfl dX1_unmark_13 ?_
    refine vv_rcv (fun b9 t9 c9 fs9 e10 g9 k9 => ?_)
    cases List.mem_singleton.mp k9
    refine vv_callR (pc := 14) (rest := [LR (some a0)]) (by rw [e10]; rfl) (fun r8 k8 e8 => zz_callV X (m_X1_copied (hlM X) _ _ _ _ e8) g9 rfl rfl q2119 q2121 qs23 q132 q2122 nh_X1 rfl (by decide) (by decide) (Nat.le_of_ble_eq_true rfl) dX1_unmark_14) (fun v7 h8 => ?_)
    refine vv_aload_n (pc := 17) X (kf := 0) (i := 0) rfl 0 rfl dX1_unmark_17 ?_
    refine vv_getR (pc := 18) X (fun _ z => by cases List.mem_singleton.mp z; exact fl_X1_35_0) dX1_unmark_18 (fun v11 => ?_)
    refine vv_iload_n (pc := 21) X (kf := 1) (i := 1) rfl 1 rfl dX1_unmark_21 ?_
    refine vv_rcv (fun b14 t9 c9 fs9 e15 g9 k9 => ?_)
    cases List.mem_singleton.mp k9
    refine vv_callI (pc := 22) (rest := [LR v7, LR (some a0)]) (by rw [e15]; rfl) (fun r8 k8 e8 => zz_callV X (m_X2_unmarks (hlM X) _ _ _ _ _ e8) g9 rfl rfl q3395 q2785 q2786 q133 q2787 nh_X2 rfl (by decide) (by decide) (Nat.le_of_ble_eq_true rfl) dX1_unmark_22) (fun v12 h13 => ?_)
    refine vv_rcv (fun b18 t9 c9 fs9 e19 g9 k9 => ?_)
    cases List.mem_singleton.mp k9
    refine vv_callI (pc := 25) (rest := []) (by rw [e19]; rfl) (fun r8 k8 e8 => zz_callV X (m_X1_made (hlM X) _ _ _ _ _ _ e8) g9 rfl rfl q3359 q3361 qs49 q132 q3362 nh_X1 rfl (by decide) (by decide) (Nat.le_of_ble_eq_true rfl) dX1_unmark_25) (fun v16 h17 => ?_)
    exact vv_iretI X rfl rfl dX1_unmark_28
  · exact vvx_out X (by decide) rfl
theorem m_X1_unmark {l : Launch} (hl : l.stackTraces = false) {G : va_G} (a0 : Nat) (a1 : Int) (h : HP) : ∀ r hf, f_X1_unmark a0 a1 h = some (r, hf) → Ct l yX1_unmark (ws_ yX1_unmark cX1_unmark 2 (some .int)) 7 216 G h [.ref a0, .int (iI a1)] (xI r) hf :=
  zz_ofW hl (by decide +kernel) (lv := [(0, LR (some a0)), (1, LI a1)]) (by simp [lv_args, lvL, lvV, zz_rfc, zz_rfs, zz_ci, zz_cr, zz_cj, zz_cf, zz_cd]) (by simp [lg_sl, zz_rfc, zz_ci, zz_cr, zz_cj, zz_cf, zz_cd]) (fun _ X => A_X1_unmark X a0 a1 h)
-- X0_unmark RenamedWordsLaw.unmark(LRenamedWords;I[J)I
noncomputable def b_X0_unmark_12 (s0 : Option Nat) (h : HP) : Option ((Int) × HP) :=
  some (1, h)
theorem B_X0_unmark_12 {M : hp_M} {G : va_G} {h0 : HP} (X : hp_X M G h0 "RenamedWordsLaw" "unmark" cX0_unmark 4 (some .int) (tableOf [(0, 9, 12, 13)]) 8 245) (s0 : Option Nat) (h : HP) : vv M G h0 4 (hp_End M G h0) jI h 12 [] [LR s0] (b_X0_unmark_12 s0 h) := by
  unfold b_X0_unmark_12
  refine vv_astore_n (pc := 12) (lv' := [(3, LR s0)]) X (kf := 3) (i := 3) rfl (by decide) rfl dX0_unmark_12 ?_
  refine vv_iconst (pc := 13) X dX0_unmark_13 ?_
  exact vv_iretI X rfl rfl dX0_unmark_14
noncomputable def f_X0_unmark (a1 : Option Nat) (a2 : Int) (a3 : Option Nat) (h : HP) : Option ((Int) × HP) :=
  (rcv h a1 [0]).bind fun b3 =>
  hbx (f_X1_unmark b3 a2 h) (fun q5 h6 =>
      (clsOf h6 q5).bind fun c7 =>
      if c7 = 36 then
        b_X0_unmark_12 (some q5) h6
      else
        none) fun v1 h2 =>
  (astJ h2 a3 0 (iL v1)).bind fun h8 =>
  some (0, h8)
theorem A_X0_unmark {M : hp_M} {G : va_G} {h0 : HP} (X : hp_X M G h0 "RenamedWordsLaw" "unmark" cX0_unmark 4 (some .int) (tableOf [(0, 9, 12, 13)]) 8 245) (a1 : Option Nat) (a2 : Int) (a3 : Option Nat) (h : HP) : vv M G h0 4 (hp_End M G h0) jI h 0 [(0, LR a1), (1, LI a2), (2, LR a3)] [] (f_X0_unmark a1 a2 a3 h) := by
  unfold f_X0_unmark
  refine vv_aload_n (pc := 0) X (kf := 2) (i := 2) rfl 2 rfl dX0_unmark_0 ?_
  refine vv_iconst (pc := 1) X dX0_unmark_1 ?_
  refine vv_aload_n (pc := 2) X (kf := 0) (i := 0) rfl 0 rfl dX0_unmark_2 ?_
  refine vv_iload_n (pc := 3) X (kf := 1) (i := 1) rfl 1 rfl dX0_unmark_3 ?_
  refine vv_rcv (fun b3 t9 c9 fs9 e4 g9 k9 => ?_)
  cases List.mem_singleton.mp k9
  refine vv_xallI (pc := 4) (rest := [LI 0, LR a3]) (by rw [e4]; rfl) (fun r8 k8 e8 => zz_callV X (m_X1_unmark (hlM X) _ _ _ _ _ e8) g9 rfl rfl q3390 q3391 q3392 q132 q3393 nh_X1 rfl (by decide) (by decide) (Nat.le_of_ble_eq_true rfl) dX0_unmark_4) (fun v1 h2 => ?_) (fun q5 h6 => ?_)
  · refine vv_i2l (pc := 7) X dX0_unmark_7 ?_
    refine vv_lastore (pc := 8) X dX0_unmark_8 (fun h8 => ?_)
    refine vv_goto (pc := 9) (tgt := 15) X dX0_unmark_9 rfl ?_
    refine vv_iconst (pc := 15) X dX0_unmark_15 ?_
    exact vv_iretI X rfl rfl dX0_unmark_16
  · refine vvx_cls (fun _ c7 _ g9 => ?_)
    refine vvx_if (fun e9 => ?_) (fun _ => ?_)
    · subst e9
      refine vvx_catch X g9 rfl [] ⟨0, 9, 12, 13⟩ [] rfl (fun z hz => nomatch hz) rfl (by decide) q3013 q275 ?_
      exact vv_sub [] (by rfl) (B_X0_unmark_12 X _ _)
    · exact vvx_none
theorem m_X0_unmark {l : Launch} (hl : l.stackTraces = false) {G : va_G} (a1 : Option Nat) (a2 : Int) (a3 : Option Nat) (h : HP) : ∀ r hf, f_X0_unmark a1 a2 a3 h = some (r, hf) → Ct l yX0_unmark (wsW_ yX0_unmark cX0_unmark 4 (some .int) [(0, 9, 12, 13)]) 8 245 G h [va_rf a1, .int (iI a2), va_rf a3] (jI r) hf :=
  zz_ofWH hl (by decide +kernel) (lv := [(0, LR a1), (1, LI a2), (2, LR a3)]) (by simp [lv_args, lvL, lvV, zz_rfc, zz_rfs, zz_ci, zz_cr, zz_cj, zz_cf, zz_cd]) (by simp [lg_sl, zz_rfc, zz_ci, zz_cr, zz_cj, zz_cf, zz_cd]) (fun _ X => A_X0_unmark X a1 a2 a3 h)
-- X9_unmark RenamedWordsModel.unmark(I)I
noncomputable def b_X9_unmark_21 (x0 : Option Nat) (x1 : Int) (s0 : Int) (s1 : Option Nat) (h : HP) : Option ((Int) × HP) :=
  (rcv h s1 [7]).bind fun b6 =>
  hb (f_X9_fails b6 s0 1 h) fun v4 h5 =>
  iEQ v4 0
    ((rcv h5 x0 [7]).bind fun b10 =>
    hb (f_X9_holds b10 h5) fun _ h9 =>
    (rcv h9 x0 [7]).bind fun b14 =>
    hb (f_X9_unmarkNow b14 x1 h9) fun v12 h13 =>
    (rcv h13 x0 [7]).bind fun b18 =>
    hb (f_X9_recorded b18 v12 h13) fun v16 h17 =>
    some (v16, h17))
    (some (0, h5))
theorem B_X9_unmark_21 {M : hp_M} {G : va_G} {h0 : HP} (X : hp_X M G h0 "RenamedWordsModel" "unmark" cX9_unmark 2 (some .int) [] 3 91) (x0 : Option Nat) (x1 : Int) (s0 : Int) (s1 : Option Nat) (h : HP) : vv M G h0 2 (hp_End M G h0) jI h 21 [(0, LR x0), (1, LI x1)] [LI s0, LR s1] (b_X9_unmark_21 x0 x1 s0 s1 h) := by
  unfold b_X9_unmark_21
  refine vv_iconst (pc := 21) X dX9_unmark_21 ?_
  refine vv_rcv (fun b6 t9 c9 fs9 e7 g9 k9 => ?_)
  cases List.mem_singleton.mp k9
  refine vv_callI (pc := 22) (rest := []) (by rw [e7]; rfl) (fun r8 k8 e8 => zz_callV X (m_X9_fails (hlM X) _ _ _ _ _ _ e8) g9 rfl rfl q3841 q3843 qs109 q164 q3844 nh_X9 rfl (by decide) (by decide) (Nat.le_of_ble_eq_true rfl) dX9_unmark_22) (fun v4 h5 => ?_)
  refine vv_if_eq (pc := 25) (tgt := 30) X dX9_unmark_25 rfl ?_ ?_
  · refine vv_aload_n (pc := 30) X (kf := 0) (i := 0) rfl 0 rfl dX9_unmark_30 ?_
    refine vv_rcv (fun b10 t9 c9 fs9 e11 g9 k9 => ?_)
    cases List.mem_singleton.mp k9
    refine vv_callV (pc := 31) (rest := []) (by rw [e11]; rfl) (fun r8 k8 e8 => zz_callV X (m_X9_holds (hlM X) _ _ _ _ e8) g9 rfl rfl q4019 q4021 qs126 q164 q4022 nh_X9 rfl (by decide) (by decide) (Nat.le_of_ble_eq_true rfl) dX9_unmark_31) (fun v8 h9 => ?_)
    refine vv_aload_n (pc := 34) X (kf := 0) (i := 0) rfl 0 rfl dX9_unmark_34 ?_
    refine vv_aload_n (pc := 35) X (kf := 0) (i := 0) rfl 0 rfl dX9_unmark_35 ?_
    refine vv_iload_n (pc := 36) X (kf := 1) (i := 1) rfl 1 rfl dX9_unmark_36 ?_
    refine vv_rcv (fun b14 t9 c9 fs9 e15 g9 k9 => ?_)
    cases List.mem_singleton.mp k9
    refine vv_callI (pc := 37) (rest := [LR x0]) (by rw [e15]; rfl) (fun r8 k8 e8 => zz_callV X (m_X9_unmarkNow (hlM X) _ _ _ _ _ e8) g9 rfl rfl q3817 q3819 qs104 q164 q3820 nh_X9 rfl (by decide) (by decide) (Nat.le_of_ble_eq_true rfl) dX9_unmark_37) (fun v12 h13 => ?_)
    refine vv_rcv (fun b18 t9 c9 fs9 e19 g9 k9 => ?_)
    cases List.mem_singleton.mp k9
    refine vv_callI (pc := 40) (rest := []) (by rw [e19]; rfl) (fun r8 k8 e8 => zz_callV X (m_X9_recorded (hlM X) _ _ _ _ _ e8) g9 rfl rfl q4023 q4025 qs127 q164 q4026 nh_X9 rfl (by decide) (by decide) (Nat.le_of_ble_eq_true rfl) dX9_unmark_40) (fun v16 h17 => ?_)
    exact vv_iretI X rfl rfl dX9_unmark_43
  · refine vv_iconst (pc := 28) X dX9_unmark_28 ?_
    exact vv_iretI X rfl rfl dX9_unmark_29
noncomputable def f_X9_unmark (a0 : Nat) (a1 : Int) (h : HP) : Option ((Int) × HP) :=
  (wrI h (some a0) [7] 7 0).bind fun h1 =>
  hb (f_X9_in a1 0 59 h1) fun v2 h3 =>
  iEQ v2 0
    (b_X9_unmark_21 (some a0) a1 1 (some a0) h3)
    (b_X9_unmark_21 (some a0) a1 0 (some a0) h3)
theorem A_X9_unmark {M : hp_M} {G : va_G} {h0 : HP} (X : hp_X M G h0 "RenamedWordsModel" "unmark" cX9_unmark 2 (some .int) [] 3 91) (a0 : Nat) (a1 : Int) (h : HP) : vv M G h0 2 (hp_End M G h0) jI h 0 [(0, LR (some a0)), (1, LI a1)] [] (f_X9_unmark a0 a1 h) := by
  unfold f_X9_unmark
  refine vv_aload_n (pc := 0) X (kf := 0) (i := 0) rfl 0 rfl dX9_unmark_0 ?_
  refine vv_iconst (pc := 1) X dX9_unmark_1 ?_
  refine vv_putI (pc := 2) (fin := false) X (fun _ z => by cases List.mem_singleton.mp z; exact fl_X9_69_7) (fun z => nomatch z) (fun z => nomatch z) dX9_unmark_2 (fun h1 => ?_)
  refine vv_aload_n (pc := 5) X (kf := 0) (i := 0) rfl 0 rfl dX9_unmark_5 ?_
  refine vv_iload_n (pc := 6) X (kf := 1) (i := 1) rfl 1 rfl dX9_unmark_6 ?_
  refine vv_iconst (pc := 7) X dX9_unmark_7 ?_
  refine vv_bipush (pc := 8) X (by decide) dX9_unmark_8 ?_
  refine vv_callI (pc := 10) (rest := [LR (some a0)]) (by rfl) (fun r8 k8 e8 => zz_callS X (m_X9_in (hlM X) _ _ _ _ _ _ e8) q3593 q3594 q164 q3595 nh_X9 rfl (by decide) (by decide) (Nat.le_of_ble_eq_true rfl) dX9_unmark_10) (fun v2 h3 => ?_)
  refine vv_if_ne (pc := 13) (tgt := 20) X dX9_unmark_13 rfl ?_ ?_
  · refine vv_iconst (pc := 20) X dX9_unmark_20 ?_
    exact B_X9_unmark_21 X _ _ _ _ _
  · refine vv_iconst (pc := 16) X dX9_unmark_16 ?_
    refine vv_goto (pc := 17) (tgt := 21) X dX9_unmark_17 rfl ?_
    exact B_X9_unmark_21 X _ _ _ _ _
theorem m_X9_unmark {l : Launch} (hl : l.stackTraces = false) {G : va_G} (a0 : Nat) (a1 : Int) (h : HP) : ∀ r hf, f_X9_unmark a0 a1 h = some (r, hf) → Ct l yX9_unmark (ws_ yX9_unmark cX9_unmark 2 (some .int)) 3 91 G h [.ref a0, .int (iI a1)] (jI r) hf :=
  zz_ofW hl (by decide +kernel) (lv := [(0, LR (some a0)), (1, LI a1)]) (by simp [lv_args, lvL, lvV, zz_rfc, zz_rfs, zz_ci, zz_cr, zz_cj, zz_cf, zz_cd]) (by simp [lg_sl, zz_rfc, zz_ci, zz_cr, zz_cj, zz_cf, zz_cd]) (fun _ X => A_X9_unmark X a0 a1 h)
-- X1_swap RenamedWords.swap(IIII)I
noncomputable def b_X1_swap_42 (x0 : Option Nat) (x1 : Int) (x2 : Int) (x3 : Int) (x4 : Int) (s0 : Int) (h : HP) : Option ((Nat ⊕ Int) × HP) :=
  hbx (f_X1_argument s0 h) (fun q9 h10 =>
      some (.inl q9, h10)) fun _ h8 =>
  (rcv h8 x0 [0]).bind fun b13 =>
  hb (f_X1_copied b13 h8) fun v11 h12 =>
  (rdR h12 x0 [0] 0).bind fun v15 =>
  (rcv h12 v15 [1]).bind fun b18 =>
  hb (f_X2_swaps b18 x1 x2 x3 x4 h12) fun v16 h17 =>
  (rcv h17 x0 [0]).bind fun b22 =>
  hb (f_X1_made b22 v11 v16 h17) fun v20 h21 =>
  some (.inr v20, h21)
theorem B_X1_swap_42 {M : hp_M} {G : va_G} {h0 : HP} (X : hp_X M G h0 "RenamedWords" "swap" cX1_swap 5 (some .int) [] 10 310) (x0 : Option Nat) (x1 : Int) (x2 : Int) (x3 : Int) (x4 : Int) (s0 : Int) (h : HP) : vv M G h0 5 (hp_End M G h0) xI h 42 [(0, LR x0), (1, LI x1), (2, LI x2), (3, LI x3), (4, LI x4)] [LI s0] (b_X1_swap_42 x0 x1 x2 x3 x4 s0 h) := by
  unfold b_X1_swap_42
  refine vv_xallV (pc := 42) (rest := []) (by rfl) (fun r8 k8 e8 => zz_callS X (m_X1_argument (hlM X) _ _ _ _ e8) q3090 q3091 q132 q3092 nh_X1 rfl (by decide) (by decide) (Nat.le_of_ble_eq_true rfl) dX1_swap_42) (fun v7 h8 => ?_) (fun q9 h10 => ?_)
  · refine vv_aload_n (pc := 45) X (kf := 0) (i := 0) rfl 0 rfl dX1_swap_45 ?_
    refine vv_aload_n (pc := 46) X (kf := 0) (i := 0) rfl 0 rfl dX1_swap_46 ?_
    refine vv_rcv (fun b13 t9 c9 fs9 e14 g9 k9 => ?_)
    cases List.mem_singleton.mp k9
    refine vv_callR (pc := 47) (rest := [LR x0]) (by rw [e14]; rfl) (fun r8 k8 e8 => zz_callV X (m_X1_copied (hlM X) _ _ _ _ e8) g9 rfl rfl q2119 q2121 qs23 q132 q2122 nh_X1 rfl (by decide) (by decide) (Nat.le_of_ble_eq_true rfl) dX1_swap_47) (fun v11 h12 => ?_)
    refine vv_aload_n (pc := 50) X (kf := 0) (i := 0) rfl 0 rfl dX1_swap_50 ?_
    refine vv_getR (pc := 51) X (fun _ z => by cases List.mem_singleton.mp z; exact fl_X1_35_0) dX1_swap_51 (fun v15 => ?_)
    refine vv_iload_n (pc := 54) X (kf := 1) (i := 1) rfl 1 rfl dX1_swap_54 ?_
    refine vv_iload_n (pc := 55) X (kf := 2) (i := 2) rfl 2 rfl dX1_swap_55 ?_
    refine vv_iload_n (pc := 56) X (kf := 3) (i := 3) rfl 3 rfl dX1_swap_56 ?_
    refine vv_iload (pc := 57) X 4 rfl dX1_swap_57 ?_
    refine vv_rcv (fun b18 t9 c9 fs9 e19 g9 k9 => ?_)
    cases List.mem_singleton.mp k9
    refine vv_callI (pc := 59) (rest := [LR v11, LR x0]) (by rw [e19]; rfl) (fun r8 k8 e8 => zz_callV X (m_X2_swaps (hlM X) _ _ _ _ _ _ _ _ e8) g9 rfl rfl q3403 q2792 q2793 q133 q2794 nh_X2 rfl (by decide) (by decide) (Nat.le_of_ble_eq_true rfl) dX1_swap_59) (fun v16 h17 => ?_)
    refine vv_rcv (fun b22 t9 c9 fs9 e23 g9 k9 => ?_)
    cases List.mem_singleton.mp k9
    refine vv_callI (pc := 62) (rest := []) (by rw [e23]; rfl) (fun r8 k8 e8 => zz_callV X (m_X1_made (hlM X) _ _ _ _ _ _ e8) g9 rfl rfl q3359 q3361 qs49 q132 q3362 nh_X1 rfl (by decide) (by decide) (Nat.le_of_ble_eq_true rfl) dX1_swap_62) (fun v20 h21 => ?_)
    exact vv_iretI X rfl rfl dX1_swap_65
  · exact vvx_out X (by decide) rfl
noncomputable def b_X1_swap_41 (x0 : Option Nat) (x1 : Int) (x2 : Int) (x3 : Int) (x4 : Int) (h : HP) : Option ((Nat ⊕ Int) × HP) :=
  b_X1_swap_42 x0 x1 x2 x3 x4 0 h
theorem B_X1_swap_41 {M : hp_M} {G : va_G} {h0 : HP} (X : hp_X M G h0 "RenamedWords" "swap" cX1_swap 5 (some .int) [] 10 310) (x0 : Option Nat) (x1 : Int) (x2 : Int) (x3 : Int) (x4 : Int) (h : HP) : vv M G h0 5 (hp_End M G h0) xI h 41 [(0, LR x0), (1, LI x1), (2, LI x2), (3, LI x3), (4, LI x4)] [] (b_X1_swap_41 x0 x1 x2 x3 x4 h) := by
  unfold b_X1_swap_41
  refine vv_iconst (pc := 41) X dX1_swap_41 ?_
  exact B_X1_swap_42 X _ _ _ _ _ _ _
noncomputable def f_X1_swap (a0 : Nat) (a1 : Int) (a2 : Int) (a3 : Int) (a4 : Int) (h : HP) : Option ((Nat ⊕ Int) × HP) :=
  hbx (f_X1_placeNumber a1 h) (fun q3 h4 =>
      some (.inl q3, h4)) fun _ h2 =>
  hb (f_X1_in (iL a2) 1 (200 : Int64) h2) fun v5 h6 =>
  iEQ v5 0
    (b_X1_swap_41 (some a0) a1 a2 a3 a4 h6)
    (hb (f_X1_isLetter a3 h6) fun v24 h25 =>
    iEQ v24 0
      (b_X1_swap_41 (some a0) a1 a2 a3 a4 h25)
      (hb (f_X1_isLetter a4 h25) fun v26 h27 =>
      iEQ v26 0
        (b_X1_swap_41 (some a0) a1 a2 a3 a4 h27)
        (iEQ a3 a4
          (b_X1_swap_41 (some a0) a1 a2 a3 a4 h27)
          (b_X1_swap_42 (some a0) a1 a2 a3 a4 1 h27))))
theorem A_X1_swap {M : hp_M} {G : va_G} {h0 : HP} (X : hp_X M G h0 "RenamedWords" "swap" cX1_swap 5 (some .int) [] 10 310) (a0 : Nat) (a1 : Int) (a2 : Int) (a3 : Int) (a4 : Int) (h : HP) : vv M G h0 5 (hp_End M G h0) xI h 0 [(0, LR (some a0)), (1, LI a1), (2, LI a2), (3, LI a3), (4, LI a4)] [] (f_X1_swap a0 a1 a2 a3 a4 h) := by
  unfold f_X1_swap
  refine vv_iload_n (pc := 0) X (kf := 1) (i := 1) rfl 1 rfl dX1_swap_0 ?_
  refine vv_xallV (pc := 1) (rest := []) (by rfl) (fun r8 k8 e8 => zz_callS X (m_X1_placeNumber (hlM X) _ _ _ _ e8) q3355 q3356 q132 q3357 nh_X1 rfl (by decide) (by decide) (Nat.le_of_ble_eq_true rfl) dX1_swap_1) (fun v1 h2 => ?_) (fun q3 h4 => ?_)
  · refine vv_iload_n (pc := 4) X (kf := 2) (i := 2) rfl 2 rfl dX1_swap_4 ?_
    refine vv_i2l (pc := 5) X dX1_swap_5 ?_
    refine vv_lconst (pc := 6) (v := 1) X (by decide) dX1_swap_6 ?_
    refine vv_ldc2 (pc := 7) X q3088 dX1_swap_7 ?_
    refine vv_callI (pc := 10) (rest := []) (by rfl) (fun r8 k8 e8 => zz_callS X (m_X1_in (hlM X) _ _ _ _ _ _ e8) q2984 q873 q132 q874 nh_X1 rfl (by decide) (by decide) (Nat.le_of_ble_eq_true rfl) dX1_swap_10) (fun v5 h6 => ?_)
    refine vv_if_eq (pc := 13) (tgt := 41) X dX1_swap_13 rfl ?_ ?_
    · exact B_X1_swap_41 X _ _ _ _ _ _
    · refine vv_iload_n (pc := 16) X (kf := 3) (i := 3) rfl 3 rfl dX1_swap_16 ?_
      refine vv_callI (pc := 17) (rest := []) (by rfl) (fun r8 k8 e8 => zz_callS X (m_X1_isLetter (hlM X) _ _ _ _ e8) q3243 q3244 q132 q3245 nh_X1 rfl (by decide) (by decide) (Nat.le_of_ble_eq_true rfl) dX1_swap_17) (fun v24 h25 => ?_)
      refine vv_if_eq (pc := 20) (tgt := 41) X dX1_swap_20 rfl ?_ ?_
      · exact B_X1_swap_41 X _ _ _ _ _ _
      · refine vv_iload (pc := 23) X 4 rfl dX1_swap_23 ?_
        refine vv_callI (pc := 25) (rest := []) (by rfl) (fun r8 k8 e8 => zz_callS X (m_X1_isLetter (hlM X) _ _ _ _ e8) q3243 q3244 q132 q3245 nh_X1 rfl (by decide) (by decide) (Nat.le_of_ble_eq_true rfl) dX1_swap_25) (fun v26 h27 => ?_)
        refine vv_if_eq (pc := 28) (tgt := 41) X dX1_swap_28 rfl ?_ ?_
        · exact B_X1_swap_41 X _ _ _ _ _ _
        · refine vv_iload_n (pc := 31) X (kf := 3) (i := 3) rfl 3 rfl dX1_swap_31 ?_
          refine vv_iload (pc := 32) X 4 rfl dX1_swap_32 ?_
          refine vv_icmp_eq (pc := 34) (tgt := 41) X dX1_swap_34 rfl ?_ ?_
          · exact B_X1_swap_41 X _ _ _ _ _ _
          · refine vv_iconst (pc := 37) X dX1_swap_37 ?_
            refine vv_goto (pc := 38) (tgt := 42) X dX1_swap_38 rfl ?_
            exact B_X1_swap_42 X _ _ _ _ _ _ _
  · exact vvx_out X (by decide) rfl
theorem m_X1_swap {l : Launch} (hl : l.stackTraces = false) {G : va_G} (a0 : Nat) (a1 : Int) (a2 : Int) (a3 : Int) (a4 : Int) (h : HP) : ∀ r hf, f_X1_swap a0 a1 a2 a3 a4 h = some (r, hf) → Ct l yX1_swap (ws_ yX1_swap cX1_swap 5 (some .int)) 10 310 G h [.ref a0, .int (iI a1), .int (iI a2), .int (iI a3), .int (iI a4)] (xI r) hf :=
  zz_ofW hl (by decide +kernel) (lv := [(0, LR (some a0)), (1, LI a1), (2, LI a2), (3, LI a3), (4, LI a4)]) (by simp [lv_args, lvL, lvV, zz_rfc, zz_rfs, zz_ci, zz_cr, zz_cj, zz_cf, zz_cd]) (by simp [lg_sl, zz_rfc, zz_ci, zz_cr, zz_cj, zz_cf, zz_cd]) (fun _ X => A_X1_swap X a0 a1 a2 a3 a4 h)
-- X0_swap RenamedWordsLaw.swap(LRenamedWords;IIII[J)I
noncomputable def b_X0_swap_17 (s0 : Option Nat) (h : HP) : Option ((Int) × HP) :=
  some (1, h)
theorem B_X0_swap_17 {M : hp_M} {G : va_G} {h0 : HP} (X : hp_X M G h0 "RenamedWordsLaw" "swap" cX0_swap 7 (some .int) (tableOf [(0, 14, 17, 13)]) 11 342) (s0 : Option Nat) (h : HP) : vv M G h0 7 (hp_End M G h0) jI h 17 [] [LR s0] (b_X0_swap_17 s0 h) := by
  unfold b_X0_swap_17
  refine vv_astore (pc := 17) (lv' := [(6, LR s0)]) X (by decide) rfl dX0_swap_17 ?_
  refine vv_iconst (pc := 19) X dX0_swap_19 ?_
  exact vv_iretI X rfl rfl dX0_swap_20
noncomputable def f_X0_swap (a1 : Option Nat) (a2 : Int) (a3 : Int) (a4 : Int) (a5 : Int) (a6 : Option Nat) (h : HP) : Option ((Int) × HP) :=
  (rcv h a1 [0]).bind fun b3 =>
  hbx (f_X1_swap b3 a2 a3 a4 a5 h) (fun q5 h6 =>
      (clsOf h6 q5).bind fun c7 =>
      if c7 = 36 then
        b_X0_swap_17 (some q5) h6
      else
        none) fun v1 h2 =>
  (astJ h2 a6 0 (iL v1)).bind fun h8 =>
  some (0, h8)
theorem A_X0_swap {M : hp_M} {G : va_G} {h0 : HP} (X : hp_X M G h0 "RenamedWordsLaw" "swap" cX0_swap 7 (some .int) (tableOf [(0, 14, 17, 13)]) 11 342) (a1 : Option Nat) (a2 : Int) (a3 : Int) (a4 : Int) (a5 : Int) (a6 : Option Nat) (h : HP) : vv M G h0 7 (hp_End M G h0) jI h 0 [(0, LR a1), (1, LI a2), (2, LI a3), (3, LI a4), (4, LI a5), (5, LR a6)] [] (f_X0_swap a1 a2 a3 a4 a5 a6 h) := by
  unfold f_X0_swap
  refine vv_aload (pc := 0) X 5 rfl dX0_swap_0 ?_
  refine vv_iconst (pc := 2) X dX0_swap_2 ?_
  refine vv_aload_n (pc := 3) X (kf := 0) (i := 0) rfl 0 rfl dX0_swap_3 ?_
  refine vv_iload_n (pc := 4) X (kf := 1) (i := 1) rfl 1 rfl dX0_swap_4 ?_
  refine vv_iload_n (pc := 5) X (kf := 2) (i := 2) rfl 2 rfl dX0_swap_5 ?_
  refine vv_iload_n (pc := 6) X (kf := 3) (i := 3) rfl 3 rfl dX0_swap_6 ?_
  refine vv_iload (pc := 7) X 4 rfl dX0_swap_7 ?_
  refine vv_rcv (fun b3 t9 c9 fs9 e4 g9 k9 => ?_)
  cases List.mem_singleton.mp k9
  refine vv_xallI (pc := 9) (rest := [LI 0, LR a6]) (by rw [e4]; rfl) (fun r8 k8 e8 => zz_callV X (m_X1_swap (hlM X) _ _ _ _ _ _ _ _ e8) g9 rfl rfl q3399 q3400 q3401 q132 q3402 nh_X1 rfl (by decide) (by decide) (Nat.le_of_ble_eq_true rfl) dX0_swap_9) (fun v1 h2 => ?_) (fun q5 h6 => ?_)
  · refine vv_i2l (pc := 12) X dX0_swap_12 ?_
    refine vv_lastore (pc := 13) X dX0_swap_13 (fun h8 => ?_)
    refine vv_goto (pc := 14) (tgt := 21) X dX0_swap_14 rfl ?_
    refine vv_iconst (pc := 21) X dX0_swap_21 ?_
    exact vv_iretI X rfl rfl dX0_swap_22
  · refine vvx_cls (fun _ c7 _ g9 => ?_)
    refine vvx_if (fun e9 => ?_) (fun _ => ?_)
    · subst e9
      refine vvx_catch X g9 rfl [] ⟨0, 14, 17, 13⟩ [] rfl (fun z hz => nomatch hz) rfl (by decide) q3013 q275 ?_
      exact vv_sub [] (by rfl) (B_X0_swap_17 X _ _)
    · exact vvx_none
theorem m_X0_swap {l : Launch} (hl : l.stackTraces = false) {G : va_G} (a1 : Option Nat) (a2 : Int) (a3 : Int) (a4 : Int) (a5 : Int) (a6 : Option Nat) (h : HP) : ∀ r hf, f_X0_swap a1 a2 a3 a4 a5 a6 h = some (r, hf) → Ct l yX0_swap (wsW_ yX0_swap cX0_swap 7 (some .int) [(0, 14, 17, 13)]) 11 342 G h [va_rf a1, .int (iI a2), .int (iI a3), .int (iI a4), .int (iI a5), va_rf a6] (jI r) hf :=
  zz_ofWH hl (by decide +kernel) (lv := [(0, LR a1), (1, LI a2), (2, LI a3), (3, LI a4), (4, LI a5), (5, LR a6)]) (by simp [lv_args, lvL, lvV, zz_rfc, zz_rfs, zz_ci, zz_cr, zz_cj, zz_cf, zz_cd]) (by simp [lg_sl, zz_rfc, zz_ci, zz_cr, zz_cj, zz_cf, zz_cd]) (fun _ X => A_X0_swap X a1 a2 a3 a4 a5 a6 h)
-- X9_swap RenamedWordsModel.swap(IIII)I
noncomputable def b_X9_swap_76 (h : HP) : Option ((Int) × HP) :=
  some (0, h)
theorem B_X9_swap_76 {M : hp_M} {G : va_G} {h0 : HP} (X : hp_X M G h0 "RenamedWordsModel" "swap" cX9_swap 5 (some .int) [] 9 277) (h : HP) : vv M G h0 5 (hp_End M G h0) jI h 76 [] [] (b_X9_swap_76 h) := by
  unfold b_X9_swap_76
  refine vv_iconst (pc := 76) X dX9_swap_76 ?_
  exact vv_iretI X rfl rfl dX9_swap_77
noncomputable def b_X9_swap_69 (x0 : Option Nat) (x1 : Int) (x2 : Int) (x3 : Int) (x4 : Int) (s0 : Int) (s1 : Option Nat) (h : HP) : Option ((Int) × HP) :=
  (rcv h s1 [7]).bind fun b22 =>
  hb (f_X9_fails b22 s0 1 h) fun v20 h21 =>
  iEQ v20 0
    ((rcv h21 x0 [7]).bind fun b26 =>
    hb (f_X9_holds b26 h21) fun _ h25 =>
    (rcv h25 x0 [7]).bind fun b30 =>
    hb (f_X9_swapNow b30 x1 x2 x3 x4 h25) fun v28 h29 =>
    (rcv h29 x0 [7]).bind fun b34 =>
    hb (f_X9_recorded b34 v28 h29) fun v32 h33 =>
    some (v32, h33))
    (b_X9_swap_76 h21)
theorem B_X9_swap_69 {M : hp_M} {G : va_G} {h0 : HP} (X : hp_X M G h0 "RenamedWordsModel" "swap" cX9_swap 5 (some .int) [] 9 277) (x0 : Option Nat) (x1 : Int) (x2 : Int) (x3 : Int) (x4 : Int) (s0 : Int) (s1 : Option Nat) (h : HP) : vv M G h0 5 (hp_End M G h0) jI h 69 [(0, LR x0), (1, LI x1), (2, LI x2), (3, LI x3), (4, LI x4)] [LI s0, LR s1] (b_X9_swap_69 x0 x1 x2 x3 x4 s0 s1 h) := by
  unfold b_X9_swap_69
  refine vv_iconst (pc := 69) X dX9_swap_69 ?_
  refine vv_rcv (fun b22 t9 c9 fs9 e23 g9 k9 => ?_)
  cases List.mem_singleton.mp k9
  refine vv_callI (pc := 70) (rest := []) (by rw [e23]; rfl) (fun r8 k8 e8 => zz_callV X (m_X9_fails (hlM X) _ _ _ _ _ _ e8) g9 rfl rfl q3841 q3843 qs109 q164 q3844 nh_X9 rfl (by decide) (by decide) (Nat.le_of_ble_eq_true rfl) dX9_swap_70) (fun v20 h21 => ?_)
  refine vv_if_eq (pc := 73) (tgt := 78) X dX9_swap_73 rfl ?_ ?_
  · refine vv_aload_n (pc := 78) X (kf := 0) (i := 0) rfl 0 rfl dX9_swap_78 ?_
    refine vv_rcv (fun b26 t9 c9 fs9 e27 g9 k9 => ?_)
    cases List.mem_singleton.mp k9
    refine vv_callV (pc := 79) (rest := []) (by rw [e27]; rfl) (fun r8 k8 e8 => zz_callV X (m_X9_holds (hlM X) _ _ _ _ e8) g9 rfl rfl q4019 q4021 qs126 q164 q4022 nh_X9 rfl (by decide) (by decide) (Nat.le_of_ble_eq_true rfl) dX9_swap_79) (fun v24 h25 => ?_)
    refine vv_aload_n (pc := 82) X (kf := 0) (i := 0) rfl 0 rfl dX9_swap_82 ?_
    refine vv_aload_n (pc := 83) X (kf := 0) (i := 0) rfl 0 rfl dX9_swap_83 ?_
    refine vv_iload_n (pc := 84) X (kf := 1) (i := 1) rfl 1 rfl dX9_swap_84 ?_
    refine vv_iload_n (pc := 85) X (kf := 2) (i := 2) rfl 2 rfl dX9_swap_85 ?_
    refine vv_iload_n (pc := 86) X (kf := 3) (i := 3) rfl 3 rfl dX9_swap_86 ?_
    refine vv_iload (pc := 87) X 4 rfl dX9_swap_87 ?_
    refine vv_rcv (fun b30 t9 c9 fs9 e31 g9 k9 => ?_)
    cases List.mem_singleton.mp k9
    refine vv_callI (pc := 89) (rest := [LR x0]) (by rw [e31]; rfl) (fun r8 k8 e8 => zz_callV X (m_X9_swapNow (hlM X) _ _ _ _ _ _ _ _ e8) g9 rfl rfl q3821 q3823 qs105 q164 q3824 nh_X9 rfl (by decide) (by decide) (Nat.le_of_ble_eq_true rfl) dX9_swap_89) (fun v28 h29 => ?_)
    refine vv_rcv (fun b34 t9 c9 fs9 e35 g9 k9 => ?_)
    cases List.mem_singleton.mp k9
    refine vv_callI (pc := 92) (rest := []) (by rw [e35]; rfl) (fun r8 k8 e8 => zz_callV X (m_X9_recorded (hlM X) _ _ _ _ _ e8) g9 rfl rfl q4023 q4025 qs127 q164 q4026 nh_X9 rfl (by decide) (by decide) (Nat.le_of_ble_eq_true rfl) dX9_swap_92) (fun v32 h33 => ?_)
    exact vv_iretI X rfl rfl dX9_swap_95
  · exact vv_sub [] (by rfl) (B_X9_swap_76 X _)
noncomputable def b_X9_swap_31 (x0 : Option Nat) (x1 : Int) (x2 : Int) (x3 : Int) (x4 : Int) (s0 : Int) (s1 : Option Nat) (h : HP) : Option ((Int) × HP) :=
  (rcv h s1 [7]).bind fun b10 =>
  hb (f_X9_fails b10 s0 1 h) fun v8 h9 =>
  iEQ v8 0
    ((rcv h9 x0 [7]).bind fun b14 =>
    hb (f_X9_noLetter b14 x3 1 h9) fun v12 h13 =>
    iEQ v12 0
      ((rcv h13 x0 [7]).bind fun b18 =>
      hb (f_X9_noLetter b18 x4 1 h13) fun v16 h17 =>
      iEQ v16 0
        (iEQ x3 x4
          (b_X9_swap_69 x0 x1 x2 x3 x4 1 x0 h17)
          (b_X9_swap_69 x0 x1 x2 x3 x4 0 x0 h17))
        (b_X9_swap_76 h17))
      (b_X9_swap_76 h13))
    (b_X9_swap_76 h9)
theorem B_X9_swap_31 {M : hp_M} {G : va_G} {h0 : HP} (X : hp_X M G h0 "RenamedWordsModel" "swap" cX9_swap 5 (some .int) [] 9 277) (x0 : Option Nat) (x1 : Int) (x2 : Int) (x3 : Int) (x4 : Int) (s0 : Int) (s1 : Option Nat) (h : HP) : vv M G h0 5 (hp_End M G h0) jI h 31 [(0, LR x0), (1, LI x1), (2, LI x2), (3, LI x3), (4, LI x4)] [LI s0, LR s1] (b_X9_swap_31 x0 x1 x2 x3 x4 s0 s1 h) := by
  unfold b_X9_swap_31
  refine vv_iconst (pc := 31) X dX9_swap_31 ?_
  refine vv_rcv (fun b10 t9 c9 fs9 e11 g9 k9 => ?_)
  cases List.mem_singleton.mp k9
  refine vv_callI (pc := 32) (rest := []) (by rw [e11]; rfl) (fun r8 k8 e8 => zz_callV X (m_X9_fails (hlM X) _ _ _ _ _ _ e8) g9 rfl rfl q3841 q3843 qs109 q164 q3844 nh_X9 rfl (by decide) (by decide) (Nat.le_of_ble_eq_true rfl) dX9_swap_32) (fun v8 h9 => ?_)
  refine vv_if_ne (pc := 35) (tgt := 76) X dX9_swap_35 rfl ?_ ?_
  · exact vv_sub [] (by rfl) (B_X9_swap_76 X _)
  · refine vv_aload_n (pc := 38) X (kf := 0) (i := 0) rfl 0 rfl dX9_swap_38 ?_
    refine vv_iload_n (pc := 39) X (kf := 3) (i := 3) rfl 3 rfl dX9_swap_39 ?_
    refine vv_iconst (pc := 40) X dX9_swap_40 ?_
    refine vv_rcv (fun b14 t9 c9 fs9 e15 g9 k9 => ?_)
    cases List.mem_singleton.mp k9
    refine vv_callI (pc := 41) (rest := []) (by rw [e15]; rfl) (fun r8 k8 e8 => zz_callV X (m_X9_noLetter (hlM X) _ _ _ _ _ _ e8) g9 rfl rfl q3958 q3960 qs121 q164 q3961 nh_X9 rfl (by decide) (by decide) (Nat.le_of_ble_eq_true rfl) dX9_swap_41) (fun v12 h13 => ?_)
    refine vv_if_ne (pc := 44) (tgt := 76) X dX9_swap_44 rfl ?_ ?_
    · exact vv_sub [] (by rfl) (B_X9_swap_76 X _)
    · refine vv_aload_n (pc := 47) X (kf := 0) (i := 0) rfl 0 rfl dX9_swap_47 ?_
      refine vv_iload (pc := 48) X 4 rfl dX9_swap_48 ?_
      refine vv_iconst (pc := 50) X dX9_swap_50 ?_
      refine vv_rcv (fun b18 t9 c9 fs9 e19 g9 k9 => ?_)
      cases List.mem_singleton.mp k9
      refine vv_callI (pc := 51) (rest := []) (by rw [e19]; rfl) (fun r8 k8 e8 => zz_callV X (m_X9_noLetter (hlM X) _ _ _ _ _ _ e8) g9 rfl rfl q3958 q3960 qs121 q164 q3961 nh_X9 rfl (by decide) (by decide) (Nat.le_of_ble_eq_true rfl) dX9_swap_51) (fun v16 h17 => ?_)
      refine vv_if_ne (pc := 54) (tgt := 76) X dX9_swap_54 rfl ?_ ?_
      · exact vv_sub [] (by rfl) (B_X9_swap_76 X _)
      · refine vv_aload_n (pc := 57) X (kf := 0) (i := 0) rfl 0 rfl dX9_swap_57 ?_
        refine vv_iload_n (pc := 58) X (kf := 3) (i := 3) rfl 3 rfl dX9_swap_58 ?_
        refine vv_iload (pc := 59) X 4 rfl dX9_swap_59 ?_
        refine vv_icmp_ne (pc := 61) (tgt := 68) X dX9_swap_61 rfl ?_ ?_
        · refine vv_iconst (pc := 68) X dX9_swap_68 ?_
          exact B_X9_swap_69 X _ _ _ _ _ _ _ _
        · refine vv_iconst (pc := 64) X dX9_swap_64 ?_
          refine vv_goto (pc := 65) (tgt := 69) X dX9_swap_65 rfl ?_
          exact B_X9_swap_69 X _ _ _ _ _ _ _ _
noncomputable def f_X9_swap (a0 : Nat) (a1 : Int) (a2 : Int) (a3 : Int) (a4 : Int) (h : HP) : Option ((Int) × HP) :=
  (wrI h (some a0) [7] 7 0).bind fun h1 =>
  (rcv h1 (some a0) [7]).bind fun b4 =>
  hb (f_X9_noOne b4 a1 1 h1) fun v2 h3 =>
  iEQ v2 0
    (hb (f_X9_in a2 1 200 h3) fun v6 h7 =>
    iEQ v6 0
      (b_X9_swap_31 (some a0) a1 a2 a3 a4 1 (some a0) h7)
      (b_X9_swap_31 (some a0) a1 a2 a3 a4 0 (some a0) h7))
    (b_X9_swap_76 h3)
theorem A_X9_swap {M : hp_M} {G : va_G} {h0 : HP} (X : hp_X M G h0 "RenamedWordsModel" "swap" cX9_swap 5 (some .int) [] 9 277) (a0 : Nat) (a1 : Int) (a2 : Int) (a3 : Int) (a4 : Int) (h : HP) : vv M G h0 5 (hp_End M G h0) jI h 0 [(0, LR (some a0)), (1, LI a1), (2, LI a2), (3, LI a3), (4, LI a4)] [] (f_X9_swap a0 a1 a2 a3 a4 h) := by
  unfold f_X9_swap
  refine vv_aload_n (pc := 0) X (kf := 0) (i := 0) rfl 0 rfl dX9_swap_0 ?_
  refine vv_iconst (pc := 1) X dX9_swap_1 ?_
  refine vv_putI (pc := 2) (fin := false) X (fun _ z => by cases List.mem_singleton.mp z; exact fl_X9_69_7) (fun z => nomatch z) (fun z => nomatch z) dX9_swap_2 (fun h1 => ?_)
  refine vv_aload_n (pc := 5) X (kf := 0) (i := 0) rfl 0 rfl dX9_swap_5 ?_
  refine vv_iload_n (pc := 6) X (kf := 1) (i := 1) rfl 1 rfl dX9_swap_6 ?_
  refine vv_iconst (pc := 7) X dX9_swap_7 ?_
  refine vv_rcv (fun b4 t9 c9 fs9 e5 g9 k9 => ?_)
  cases List.mem_singleton.mp k9
  refine vv_callI (pc := 8) (rest := []) (by rw [e5]; rfl) (fun r8 k8 e8 => zz_callV X (m_X9_noOne (hlM X) _ _ _ _ _ _ e8) g9 rfl rfl q4015 q4017 qs125 q164 q4018 nh_X9 rfl (by decide) (by decide) (Nat.le_of_ble_eq_true rfl) dX9_swap_8) (fun v2 h3 => ?_)
  refine vv_if_ne (pc := 11) (tgt := 76) X dX9_swap_11 rfl ?_ ?_
  · exact vv_sub [] (by rfl) (B_X9_swap_76 X _)
  · refine vv_aload_n (pc := 14) X (kf := 0) (i := 0) rfl 0 rfl dX9_swap_14 ?_
    refine vv_iload_n (pc := 15) X (kf := 2) (i := 2) rfl 2 rfl dX9_swap_15 ?_
    refine vv_iconst (pc := 16) X dX9_swap_16 ?_
    refine vv_sipush (pc := 17) X (by decide) dX9_swap_17 ?_
    refine vv_callI (pc := 20) (rest := [LR (some a0)]) (by rfl) (fun r8 k8 e8 => zz_callS X (m_X9_in (hlM X) _ _ _ _ _ _ e8) q3593 q3594 q164 q3595 nh_X9 rfl (by decide) (by decide) (Nat.le_of_ble_eq_true rfl) dX9_swap_20) (fun v6 h7 => ?_)
    refine vv_if_ne (pc := 23) (tgt := 30) X dX9_swap_23 rfl ?_ ?_
    · refine vv_iconst (pc := 30) X dX9_swap_30 ?_
      exact B_X9_swap_31 X _ _ _ _ _ _ _ _
    · refine vv_iconst (pc := 26) X dX9_swap_26 ?_
      refine vv_goto (pc := 27) (tgt := 31) X dX9_swap_27 rfl ?_
      exact B_X9_swap_31 X _ _ _ _ _ _ _ _
theorem m_X9_swap {l : Launch} (hl : l.stackTraces = false) {G : va_G} (a0 : Nat) (a1 : Int) (a2 : Int) (a3 : Int) (a4 : Int) (h : HP) : ∀ r hf, f_X9_swap a0 a1 a2 a3 a4 h = some (r, hf) → Ct l yX9_swap (ws_ yX9_swap cX9_swap 5 (some .int)) 9 277 G h [.ref a0, .int (iI a1), .int (iI a2), .int (iI a3), .int (iI a4)] (jI r) hf :=
  zz_ofW hl (by decide +kernel) (lv := [(0, LR (some a0)), (1, LI a1), (2, LI a2), (3, LI a3), (4, LI a4)]) (by simp [lv_args, lvL, lvV, zz_rfc, zz_rfs, zz_ci, zz_cr, zz_cj, zz_cf, zz_cd]) (by simp [lg_sl, zz_rfc, zz_ci, zz_cr, zz_cj, zz_cf, zz_cd]) (fun _ X => A_X9_swap X a0 a1 a2 a3 a4 h)
-- X1_take RenamedWords.take(III)I
noncomputable def f_X1_take (a0 : Nat) (a1 : Int) (a2 : Int) (a3 : Int) (h : HP) : Option ((Nat ⊕ Int) × HP) :=
  (rcv h (some a0) [0]).bind fun b3 =>
  hbx (f_X1_patternAt b3 a1 h) (fun q5 h6 =>
      some (.inl q5, h6)) fun v1 h2 =>
  hbx (f_X1_placeNumber a2 h2) (fun q9 h10 =>
      some (.inl q9, h10)) fun _ h8 =>
  hb (f_X1_in (iL a3) 1 (20 : Int64) h8) fun v11 h12 =>
  hbx (f_X1_argument v11 h12) (fun q15 h16 =>
      some (.inl q15, h16)) fun _ h14 =>
  (rcv h14 (some a0) [0]).bind fun b19 =>
  hb (f_X1_copied b19 h14) fun v17 h18 =>
  (rdR h18 (some a0) [0] 0).bind fun v21 =>
  (rcv h18 v21 [1]).bind fun b24 =>
  hb (f_X2_takes b24 a1 a2 a3 h18) fun v22 h23 =>
  (rcv h23 (some a0) [0]).bind fun b28 =>
  hb (f_X1_made b28 v17 v22 h23) fun v26 h27 =>
  some (.inr v26, h27)
theorem A_X1_take {M : hp_M} {G : va_G} {h0 : HP} (X : hp_X M G h0 "RenamedWords" "take" cX1_take 5 (some .int) [] 10 307) (a0 : Nat) (a1 : Int) (a2 : Int) (a3 : Int) (h : HP) : vv M G h0 5 (hp_End M G h0) xI h 0 [(0, LR (some a0)), (1, LI a1), (2, LI a2), (3, LI a3)] [] (f_X1_take a0 a1 a2 a3 h) := by
  unfold f_X1_take
  refine vv_aload_n (pc := 0) X (kf := 0) (i := 0) rfl 0 rfl dX1_take_0 ?_
  refine vv_iload_n (pc := 1) X (kf := 1) (i := 1) rfl 1 rfl dX1_take_1 ?_
  refine vv_rcv (fun b3 t9 c9 fs9 e4 g9 k9 => ?_)
  cases List.mem_singleton.mp k9
  refine vv_xallR (pc := 2) (rest := []) (by rw [e4]; rfl) (fun r8 k8 e8 => zz_callV X (m_X1_patternAt (hlM X) _ _ _ _ _ e8) g9 rfl rfl q3102 q3104 qs47 q132 q3105 nh_X1 rfl (by decide) (by decide) (Nat.le_of_ble_eq_true rfl) dX1_take_2) (fun v1 h2 => ?_) (fun q5 h6 => ?_)
  · refine vv_astore (pc := 5) (lv' := [(4, LR v1), (0, LR (some a0)), (1, LI a1), (2, LI a2), (3, LI a3)]) X (by decide) rfl dX1_take_5 ?_
    refine vv_iload_n (pc := 7) X (kf := 2) (i := 2) rfl 3 rfl dX1_take_7 ?_
    refine vv_xallV (pc := 8) (rest := []) (by rfl) (fun r8 k8 e8 => zz_callS X (m_X1_placeNumber (hlM X) _ _ _ _ e8) q3355 q3356 q132 q3357 nh_X1 rfl (by decide) (by decide) (Nat.le_of_ble_eq_true rfl) dX1_take_8) (fun v7 h8 => ?_) (fun q9 h10 => ?_)
    · refine vv_iload_n (pc := 11) X (kf := 3) (i := 3) rfl 4 rfl dX1_take_11 ?_
      refine vv_i2l (pc := 12) X dX1_take_12 ?_
      refine vv_lconst (pc := 13) (v := 1) X (by decide) dX1_take_13 ?_
      refine vv_ldc2 (pc := 14) X q3411 dX1_take_14 ?_
      refine vv_callI (pc := 17) (rest := []) (by rfl) (fun r8 k8 e8 => zz_callS X (m_X1_in (hlM X) _ _ _ _ _ _ e8) q2984 q873 q132 q874 nh_X1 rfl (by decide) (by decide) (Nat.le_of_ble_eq_true rfl) dX1_take_17) (fun v11 h12 => ?_)
      refine vv_xallV (pc := 20) (rest := []) (by rfl) (fun r8 k8 e8 => zz_callS X (m_X1_argument (hlM X) _ _ _ _ e8) q3090 q3091 q132 q3092 nh_X1 rfl (by decide) (by decide) (Nat.le_of_ble_eq_true rfl) dX1_take_20) (fun v13 h14 => ?_) (fun q15 h16 => ?_)
      · refine vv_aload_n (pc := 23) X (kf := 0) (i := 0) rfl 1 rfl dX1_take_23 ?_
        refine vv_aload_n (pc := 24) X (kf := 0) (i := 0) rfl 1 rfl dX1_take_24 ?_
        refine vv_rcv (fun b19 t9 c9 fs9 e20 g9 k9 => ?_)
        cases List.mem_singleton.mp k9
        refine vv_callR (pc := 25) (rest := [LR (some a0)]) (by rw [e20]; rfl) (fun r8 k8 e8 => zz_callV X (m_X1_copied (hlM X) _ _ _ _ e8) g9 rfl rfl q2119 q2121 qs23 q132 q2122 nh_X1 rfl (by decide) (by decide) (Nat.le_of_ble_eq_true rfl) dX1_take_25) (fun v17 h18 => ?_)
        refine vv_aload_n (pc := 28) X (kf := 0) (i := 0) rfl 1 rfl dX1_take_28 ?_
        refine vv_getR (pc := 29) X (fun _ z => by cases List.mem_singleton.mp z; exact fl_X1_35_0) dX1_take_29 (fun v21 => ?_)
        refine vv_iload_n (pc := 32) X (kf := 1) (i := 1) rfl 2 rfl dX1_take_32 ?_
        refine vv_iload_n (pc := 33) X (kf := 2) (i := 2) rfl 3 rfl dX1_take_33 ?_
        refine vv_iload_n (pc := 34) X (kf := 3) (i := 3) rfl 4 rfl dX1_take_34 ?_
        refine vv_rcv (fun b24 t9 c9 fs9 e25 g9 k9 => ?_)
        cases List.mem_singleton.mp k9
        refine vv_callI (pc := 35) (rest := [LR v17, LR (some a0)]) (by rw [e25]; rfl) (fun r8 k8 e8 => zz_callV X (m_X2_takes (hlM X) _ _ _ _ _ _ _ e8) g9 rfl rfl q3412 q2804 q2805 q133 q2806 nh_X2 rfl (by decide) (by decide) (Nat.le_of_ble_eq_true rfl) dX1_take_35) (fun v22 h23 => ?_)
        refine vv_rcv (fun b28 t9 c9 fs9 e29 g9 k9 => ?_)
        cases List.mem_singleton.mp k9
        refine vv_callI (pc := 38) (rest := []) (by rw [e29]; rfl) (fun r8 k8 e8 => zz_callV X (m_X1_made (hlM X) _ _ _ _ _ _ e8) g9 rfl rfl q3359 q3361 qs49 q132 q3362 nh_X1 rfl (by decide) (by decide) (Nat.le_of_ble_eq_true rfl) dX1_take_38) (fun v26 h27 => ?_)
        exact vv_iretI X rfl rfl dX1_take_41
      · exact vvx_out X (by decide) rfl
    · exact vvx_out X (by decide) rfl
  · exact vvx_out X (by decide) rfl
theorem m_X1_take {l : Launch} (hl : l.stackTraces = false) {G : va_G} (a0 : Nat) (a1 : Int) (a2 : Int) (a3 : Int) (h : HP) : ∀ r hf, f_X1_take a0 a1 a2 a3 h = some (r, hf) → Ct l yX1_take (ws_ yX1_take cX1_take 5 (some .int)) 10 307 G h [.ref a0, .int (iI a1), .int (iI a2), .int (iI a3)] (xI r) hf :=
  zz_ofW hl (by decide +kernel) (lv := [(0, LR (some a0)), (1, LI a1), (2, LI a2), (3, LI a3)]) (by simp [lv_args, lvL, lvV, zz_rfc, zz_rfs, zz_ci, zz_cr, zz_cj, zz_cf, zz_cd]) (by simp [lg_sl, zz_rfc, zz_ci, zz_cr, zz_cj, zz_cf, zz_cd]) (fun _ X => A_X1_take X a0 a1 a2 a3 h)
-- X0_take RenamedWordsLaw.take(LRenamedWords;III[J)I
noncomputable def b_X0_take_19 (s0 : Option Nat) (h : HP) : Option ((Int) × HP) :=
  some (2, h)
theorem B_X0_take_19 {M : hp_M} {G : va_G} {h0 : HP} (X : hp_X M G h0 "RenamedWordsLaw" "take" cX0_take 6 (some .int) (tableOf [(0, 12, 15, 18), (0, 12, 19, 13)]) 11 339) (s0 : Option Nat) (h : HP) : vv M G h0 6 (hp_End M G h0) jI h 19 [] [LR s0] (b_X0_take_19 s0 h) := by
  unfold b_X0_take_19
  refine vv_astore (pc := 19) (lv' := [(5, LR s0)]) X (by decide) rfl dX0_take_19 ?_
  refine vv_iconst (pc := 21) X dX0_take_21 ?_
  exact vv_iretI X rfl rfl dX0_take_22
noncomputable def b_X0_take_15 (s0 : Option Nat) (h : HP) : Option ((Int) × HP) :=
  some (1, h)
theorem B_X0_take_15 {M : hp_M} {G : va_G} {h0 : HP} (X : hp_X M G h0 "RenamedWordsLaw" "take" cX0_take 6 (some .int) (tableOf [(0, 12, 15, 18), (0, 12, 19, 13)]) 11 339) (s0 : Option Nat) (h : HP) : vv M G h0 6 (hp_End M G h0) jI h 15 [] [LR s0] (b_X0_take_15 s0 h) := by
  unfold b_X0_take_15
  refine vv_astore (pc := 15) (lv' := [(5, LR s0)]) X (by decide) rfl dX0_take_15 ?_
  refine vv_iconst (pc := 17) X dX0_take_17 ?_
  exact vv_iretI X rfl rfl dX0_take_18
noncomputable def f_X0_take (a1 : Option Nat) (a2 : Int) (a3 : Int) (a4 : Int) (a5 : Option Nat) (h : HP) : Option ((Int) × HP) :=
  (rcv h a1 [0]).bind fun b3 =>
  hbx (f_X1_take b3 a2 a3 a4 h) (fun q5 h6 =>
      (clsOf h6 q5).bind fun c7 =>
      if c7 = 35 then
        b_X0_take_15 (some q5) h6
      else
        if c7 = 36 then
          b_X0_take_19 (some q5) h6
        else
          none) fun v1 h2 =>
  (astJ h2 a5 0 (iL v1)).bind fun h8 =>
  some (0, h8)
theorem A_X0_take {M : hp_M} {G : va_G} {h0 : HP} (X : hp_X M G h0 "RenamedWordsLaw" "take" cX0_take 6 (some .int) (tableOf [(0, 12, 15, 18), (0, 12, 19, 13)]) 11 339) (a1 : Option Nat) (a2 : Int) (a3 : Int) (a4 : Int) (a5 : Option Nat) (h : HP) : vv M G h0 6 (hp_End M G h0) jI h 0 [(0, LR a1), (1, LI a2), (2, LI a3), (3, LI a4), (4, LR a5)] [] (f_X0_take a1 a2 a3 a4 a5 h) := by
  unfold f_X0_take
  refine vv_aload (pc := 0) X 4 rfl dX0_take_0 ?_
  refine vv_iconst (pc := 2) X dX0_take_2 ?_
  refine vv_aload_n (pc := 3) X (kf := 0) (i := 0) rfl 0 rfl dX0_take_3 ?_
  refine vv_iload_n (pc := 4) X (kf := 1) (i := 1) rfl 1 rfl dX0_take_4 ?_
  refine vv_iload_n (pc := 5) X (kf := 2) (i := 2) rfl 2 rfl dX0_take_5 ?_
  refine vv_iload_n (pc := 6) X (kf := 3) (i := 3) rfl 3 rfl dX0_take_6 ?_
  refine vv_rcv (fun b3 t9 c9 fs9 e4 g9 k9 => ?_)
  cases List.mem_singleton.mp k9
  refine vv_xallI (pc := 7) (rest := [LI 0, LR a5]) (by rw [e4]; rfl) (fun r8 k8 e8 => zz_callV X (m_X1_take (hlM X) _ _ _ _ _ _ _ e8) g9 rfl rfl q3407 q3408 q3409 q132 q3410 nh_X1 rfl (by decide) (by decide) (Nat.le_of_ble_eq_true rfl) dX0_take_7) (fun v1 h2 => ?_) (fun q5 h6 => ?_)
  · refine vv_i2l (pc := 10) X dX0_take_10 ?_
    refine vv_lastore (pc := 11) X dX0_take_11 (fun h8 => ?_)
    refine vv_goto (pc := 12) (tgt := 23) X dX0_take_12 rfl ?_
    refine vv_iconst (pc := 23) X dX0_take_23 ?_
    exact vv_iretI X rfl rfl dX0_take_24
  · refine vvx_cls (fun _ c7 _ g9 => ?_)
    refine vvx_if (fun e9 => ?_) (fun _ => ?_)
    · subst e9
      refine vvx_catch X g9 rfl [] ⟨0, 12, 15, 18⟩ [⟨0, 12, 19, 13⟩] rfl (fun z hz => nomatch hz) rfl (by decide) q3041 q2274 ?_
      exact vv_sub [] (by rfl) (B_X0_take_15 X _ _)
    · refine vvx_if (fun e9 => ?_) (fun _ => ?_)
      · subst e9
        refine vvx_catch X g9 rfl [⟨0, 12, 15, 18⟩] ⟨0, 12, 19, 13⟩ [] rfl (fun z hz => by rcases List.mem_cons.mp hz with rfl | hz; exact Or.inr ⟨by decide, _, q3041, List.mem_of_getElem? (i := 0) rfl⟩; exact nomatch hz) rfl (by decide) q3013 q275 ?_
        exact vv_sub [] (by rfl) (B_X0_take_19 X _ _)
      · exact vvx_none
theorem m_X0_take {l : Launch} (hl : l.stackTraces = false) {G : va_G} (a1 : Option Nat) (a2 : Int) (a3 : Int) (a4 : Int) (a5 : Option Nat) (h : HP) : ∀ r hf, f_X0_take a1 a2 a3 a4 a5 h = some (r, hf) → Ct l yX0_take (wsW_ yX0_take cX0_take 6 (some .int) [(0, 12, 15, 18), (0, 12, 19, 13)]) 11 339 G h [va_rf a1, .int (iI a2), .int (iI a3), .int (iI a4), va_rf a5] (jI r) hf :=
  zz_ofWH hl (by decide +kernel) (lv := [(0, LR a1), (1, LI a2), (2, LI a3), (3, LI a4), (4, LR a5)]) (by simp [lv_args, lvL, lvV, zz_rfc, zz_rfs, zz_ci, zz_cr, zz_cj, zz_cf, zz_cd]) (by simp [lg_sl, zz_rfc, zz_ci, zz_cr, zz_cj, zz_cf, zz_cd]) (fun _ X => A_X0_take X a1 a2 a3 a4 a5 h)
