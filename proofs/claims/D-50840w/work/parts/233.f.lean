/-! STAGE 1c: functions and contracts (printed by gen/mkfuncs.py). -/
set_option maxRecDepth 100000
set_option linter.unusedVariables false
-- X1_patternAt_2 RenamedWords.patternAt(II)I
noncomputable def b_X1_patternAt_2_31 (s0 : Int) (h : HP) : Option ((Nat ⊕ Int) × HP) :=
  some (.inr s0, h)
theorem B_X1_patternAt_2_31 {M : hp_M} {G : va_G} {h0 : HP} (X : hp_X M G h0 "RenamedWords" "patternAt" cX1_patternAt_2 4 (some .int) [] 8 154) (s0 : Int) (h : HP) : vv M G h0 4 (hp_End M G h0) xI h 31 [] [LI s0] (b_X1_patternAt_2_31 s0 h) := by
  unfold b_X1_patternAt_2_31
  exact vv_iretI X rfl rfl dX1_patternAt_2_31
noncomputable def f_X1_patternAt_2 (a0 : Nat) (a1 : Int) (a2 : Int) (h : HP) : Option ((Nat ⊕ Int) × HP) :=
  (rcv h (some a0) [0]).bind fun b3 =>
  hbx (f_X1_patternAt b3 a1 h) (fun q5 h6 =>
      some (.inl q5, h6)) fun v1 h2 =>
  (rcv h2 v1 [11]).bind fun b9 =>
  hb (f_X14_many b9 h2) fun v7 h8 =>
  hb (f_X1_in (iL a2) 0 (iL (v7 - 1)) h8) fun v11 h12 =>
  iEQ v11 0
    (b_X1_patternAt_2_31 (-1) h12)
    ((rcv h12 v1 [11]).bind fun b15 =>
    hb (f_X14_at b15 a2 h12) fun v13 h14 =>
    b_X1_patternAt_2_31 v13 h14)
theorem A_X1_patternAt_2 {M : hp_M} {G : va_G} {h0 : HP} (X : hp_X M G h0 "RenamedWords" "patternAt" cX1_patternAt_2 4 (some .int) [] 8 154) (a0 : Nat) (a1 : Int) (a2 : Int) (h : HP) : vv M G h0 4 (hp_End M G h0) xI h 0 [(0, LR (some a0)), (1, LI a1), (2, LI a2)] [] (f_X1_patternAt_2 a0 a1 a2 h) := by
  unfold f_X1_patternAt_2
  refine vv_aload_n (pc := 0) X (kf := 0) (i := 0) rfl 0 rfl dX1_patternAt_2_0 ?_
  refine vv_iload_n (pc := 1) X (kf := 1) (i := 1) rfl 1 rfl dX1_patternAt_2_1 ?_
  refine vv_rcv (fun b3 t9 c9 fs9 e4 g9 k9 => ?_)
  cases List.mem_singleton.mp k9
  refine vv_xallR (pc := 2) (rest := []) (by rw [e4]; rfl) (fun r8 k8 e8 => zz_callV X (m_X1_patternAt (hlM X) _ _ _ _ _ e8) g9 rfl rfl q3102 q3104 qs47 q132 q3105 nh_X1 rfl (by decide) (by decide) (Nat.le_of_ble_eq_true rfl) dX1_patternAt_2_2) (fun v1 h2 => ?_) (fun q5 h6 => ?_)
  · refine vv_astore_n (pc := 5) (lv' := [(3, LR v1), (0, LR (some a0)), (1, LI a1), (2, LI a2)]) X (kf := 3) (i := 3) rfl (by decide) rfl dX1_patternAt_2_5 ?_
    refine vv_iload_n (pc := 6) X (kf := 2) (i := 2) rfl 3 rfl dX1_patternAt_2_6 ?_
    refine vv_i2l (pc := 7) X dX1_patternAt_2_7 ?_
    refine vv_lconst (pc := 8) (v := 0) X (by decide) dX1_patternAt_2_8 ?_
    refine vv_aload_n (pc := 9) X (kf := 3) (i := 3) rfl 0 rfl dX1_patternAt_2_9 ?_
    refine vv_rcv (fun b9 t9 c9 fs9 e10 g9 k9 => ?_)
    cases List.mem_singleton.mp k9
    refine vv_callI (pc := 10) (rest := [LJ 0, LJ (iL a2)]) (by rw [e10]; rfl) (fun r8 k8 e8 => zz_callV X (m_X14_many (hlM X) _ _ _ _ e8) g9 rfl rfl q2881 q2601 q2602 q174 q2603 nh_X14 rfl (by decide) (by decide) (Nat.le_of_ble_eq_true rfl) dX1_patternAt_2_10) (fun v7 h8 => ?_)
    refine vv_iconst (pc := 13) X dX1_patternAt_2_13 ?_
    refine vv_isub (pc := 14) X dX1_patternAt_2_14 ?_
    refine vv_i2l (pc := 15) X dX1_patternAt_2_15 ?_
    refine vv_callI (pc := 16) (rest := []) (by rfl) (fun r8 k8 e8 => zz_callS X (m_X1_in (hlM X) _ _ _ _ _ _ e8) q2984 q873 q132 q874 nh_X1 rfl (by decide) (by decide) (Nat.le_of_ble_eq_true rfl) dX1_patternAt_2_16) (fun v11 h12 => ?_)
    refine vv_if_eq (pc := 19) (tgt := 30) X dX1_patternAt_2_19 rfl ?_ ?_
    · refine vv_iconst (pc := 30) X dX1_patternAt_2_30 ?_
      exact vv_sub [] (by rfl) (B_X1_patternAt_2_31 X _ _)
    · refine vv_aload_n (pc := 22) X (kf := 3) (i := 3) rfl 0 rfl dX1_patternAt_2_22 ?_
      refine vv_iload_n (pc := 23) X (kf := 2) (i := 2) rfl 3 rfl dX1_patternAt_2_23 ?_
      refine vv_rcv (fun b15 t9 c9 fs9 e16 g9 k9 => ?_)
      cases List.mem_singleton.mp k9
      refine vv_callI (pc := 24) (rest := []) (by rw [e16]; rfl) (fun r8 k8 e8 => zz_callV X (m_X14_at (hlM X) _ _ _ _ _ e8) g9 rfl rfl q3153 q2641 q4118 q174 q2642 nh_X14 rfl (by decide) (by decide) (Nat.le_of_ble_eq_true rfl) dX1_patternAt_2_24) (fun v13 h14 => ?_)
      refine vv_goto (pc := 27) (tgt := 31) X dX1_patternAt_2_27 rfl ?_
      exact vv_sub [] (by rfl) (B_X1_patternAt_2_31 X _ _)
  · exact vvx_out X (by decide) rfl
theorem m_X1_patternAt_2 {l : Launch} (hl : l.stackTraces = false) {G : va_G} (a0 : Nat) (a1 : Int) (a2 : Int) (h : HP) : ∀ r hf, f_X1_patternAt_2 a0 a1 a2 h = some (r, hf) → Ct l yX1_patternAt_2 (ws_ yX1_patternAt_2 cX1_patternAt_2 4 (some .int)) 8 154 G h [.ref a0, .int (iI a1), .int (iI a2)] (xI r) hf :=
  zz_ofW hl (by decide +kernel) (lv := [(0, LR (some a0)), (1, LI a1), (2, LI a2)]) (by simp [lv_args, lvL, lvV, zz_rfc, zz_rfs, zz_ci, zz_cr, zz_cj, zz_cf, zz_cd]) (by simp [lg_sl, zz_rfc, zz_ci, zz_cr, zz_cj, zz_cf, zz_cd]) (fun _ X => A_X1_patternAt_2 X a0 a1 a2 h)
-- X0_patternAt RenamedWordsLaw.patternAt(LRenamedWords;II[J)I
noncomputable def b_X0_patternAt_13 (s0 : Option Nat) (h : HP) : Option ((Int) × HP) :=
  some (1, h)
theorem B_X0_patternAt_13 {M : hp_M} {G : va_G} {h0 : HP} (X : hp_X M G h0 "RenamedWordsLaw" "patternAt" cX0_patternAt 5 (some .int) (tableOf [(0, 10, 13, 18)]) 9 185) (s0 : Option Nat) (h : HP) : vv M G h0 5 (hp_End M G h0) jI h 13 [] [LR s0] (b_X0_patternAt_13 s0 h) := by
  unfold b_X0_patternAt_13
  refine vv_astore (pc := 13) (lv' := [(4, LR s0)]) X (by decide) rfl dX0_patternAt_13 ?_
  refine vv_iconst (pc := 15) X dX0_patternAt_15 ?_
  exact vv_iretI X rfl rfl dX0_patternAt_16
noncomputable def f_X0_patternAt (a1 : Option Nat) (a2 : Int) (a3 : Int) (a4 : Option Nat) (h : HP) : Option ((Int) × HP) :=
  (rcv h a1 [0]).bind fun b3 =>
  hbx (f_X1_patternAt_2 b3 a2 a3 h) (fun q5 h6 =>
      (clsOf h6 q5).bind fun c7 =>
      if c7 = 35 then
        b_X0_patternAt_13 (some q5) h6
      else
        none) fun v1 h2 =>
  (astJ h2 a4 0 (iL v1)).bind fun h8 =>
  some (0, h8)
theorem A_X0_patternAt {M : hp_M} {G : va_G} {h0 : HP} (X : hp_X M G h0 "RenamedWordsLaw" "patternAt" cX0_patternAt 5 (some .int) (tableOf [(0, 10, 13, 18)]) 9 185) (a1 : Option Nat) (a2 : Int) (a3 : Int) (a4 : Option Nat) (h : HP) : vv M G h0 5 (hp_End M G h0) jI h 0 [(0, LR a1), (1, LI a2), (2, LI a3), (3, LR a4)] [] (f_X0_patternAt a1 a2 a3 a4 h) := by
  unfold f_X0_patternAt
  refine vv_aload_n (pc := 0) X (kf := 3) (i := 3) rfl 3 rfl dX0_patternAt_0 ?_
  refine vv_iconst (pc := 1) X dX0_patternAt_1 ?_
  refine vv_aload_n (pc := 2) X (kf := 0) (i := 0) rfl 0 rfl dX0_patternAt_2 ?_
  refine vv_iload_n (pc := 3) X (kf := 1) (i := 1) rfl 1 rfl dX0_patternAt_3 ?_
  refine vv_iload_n (pc := 4) X (kf := 2) (i := 2) rfl 2 rfl dX0_patternAt_4 ?_
  refine vv_rcv (fun b3 t9 c9 fs9 e4 g9 k9 => ?_)
  cases List.mem_singleton.mp k9
  refine vv_xallI (pc := 5) (rest := [LI 0, LR a4]) (by rw [e4]; rfl) (fun r8 k8 e8 => zz_callV X (m_X1_patternAt_2 (hlM X) _ _ _ _ _ _ e8) g9 rfl rfl q3149 q3150 q3151 q132 q3152 nh_X1 rfl (by decide) (by decide) (Nat.le_of_ble_eq_true rfl) dX0_patternAt_5) (fun v1 h2 => ?_) (fun q5 h6 => ?_)
  · refine vv_i2l (pc := 8) X dX0_patternAt_8 ?_
    refine vv_lastore (pc := 9) X dX0_patternAt_9 (fun h8 => ?_)
    refine vv_goto (pc := 10) (tgt := 17) X dX0_patternAt_10 rfl ?_
    refine vv_iconst (pc := 17) X dX0_patternAt_17 ?_
    exact vv_iretI X rfl rfl dX0_patternAt_18
  · refine vvx_cls (fun _ c7 _ g9 => ?_)
    refine vvx_if (fun e9 => ?_) (fun _ => ?_)
    · subst e9
      refine vvx_catch X g9 rfl [] ⟨0, 10, 13, 18⟩ [] rfl (fun z hz => nomatch hz) rfl (by decide) q3041 q2274 ?_
      exact vv_sub [] (by rfl) (B_X0_patternAt_13 X _ _)
    · exact vvx_none
theorem m_X0_patternAt {l : Launch} (hl : l.stackTraces = false) {G : va_G} (a1 : Option Nat) (a2 : Int) (a3 : Int) (a4 : Option Nat) (h : HP) : ∀ r hf, f_X0_patternAt a1 a2 a3 a4 h = some (r, hf) → Ct l yX0_patternAt (wsW_ yX0_patternAt cX0_patternAt 5 (some .int) [(0, 10, 13, 18)]) 9 185 G h [va_rf a1, .int (iI a2), .int (iI a3), va_rf a4] (jI r) hf :=
  zz_ofWH hl (by decide +kernel) (lv := [(0, LR a1), (1, LI a2), (2, LI a3), (3, LR a4)]) (by simp [lv_args, lvL, lvV, zz_rfc, zz_rfs, zz_ci, zz_cr, zz_cj, zz_cf, zz_cd]) (by simp [lg_sl, zz_rfc, zz_ci, zz_cr, zz_cj, zz_cf, zz_cd]) (fun _ X => A_X0_patternAt X a1 a2 a3 a4 h)
-- X9_patternAt RenamedWordsModel.patternAt(II)I
noncomputable def b_X9_patternAt_44 (s0 : Int) (h : HP) : Option ((Int) × HP) :=
  some (s0, h)
theorem B_X9_patternAt_44 {M : hp_M} {G : va_G} {h0 : HP} (X : hp_X M G h0 "RenamedWordsModel" "patternAt" cX9_patternAt 3 (some .int) [] 2 59) (s0 : Int) (h : HP) : vv M G h0 3 (hp_End M G h0) jI h 44 [] [LI s0] (b_X9_patternAt_44 s0 h) := by
  unfold b_X9_patternAt_44
  exact vv_iretI X rfl rfl dX9_patternAt_44
noncomputable def f_X9_patternAt (a0 : Nat) (a1 : Int) (a2 : Int) (h : HP) : Option ((Int) × HP) :=
  (wrI h (some a0) [7] 7 0).bind fun h1 =>
  (rcv h1 (some a0) [7]).bind fun b4 =>
  hb (f_X9_noPattern b4 a1 h1) fun v2 h3 =>
  iEQ v2 0
    ((rcv h3 (some a0) [7]).bind fun b8 =>
    hb (f_X9_of b8 a1 0 h3) fun v6 h7 =>
    hb (f_X9_in a2 0 (v6 - 1) h7) fun v10 h11 =>
    iEQ v10 0
      (b_X9_patternAt_44 (-1) h11)
      ((rcv h11 (some a0) [7]).bind fun b14 =>
      hb (f_X9_of b14 a1 (10 + a2) h11) fun v12 h13 =>
      b_X9_patternAt_44 v12 h13))
    (some (0, h3))
theorem A_X9_patternAt {M : hp_M} {G : va_G} {h0 : HP} (X : hp_X M G h0 "RenamedWordsModel" "patternAt" cX9_patternAt 3 (some .int) [] 2 59) (a0 : Nat) (a1 : Int) (a2 : Int) (h : HP) : vv M G h0 3 (hp_End M G h0) jI h 0 [(0, LR (some a0)), (1, LI a1), (2, LI a2)] [] (f_X9_patternAt a0 a1 a2 h) := by
  unfold f_X9_patternAt
  refine vv_aload_n (pc := 0) X (kf := 0) (i := 0) rfl 0 rfl dX9_patternAt_0 ?_
  refine vv_iconst (pc := 1) X dX9_patternAt_1 ?_
  refine vv_putI (pc := 2) (fin := false) X (fun _ z => by cases List.mem_singleton.mp z; exact fl_X9_69_7) (fun z => nomatch z) (fun z => nomatch z) dX9_patternAt_2 (fun h1 => ?_)
  refine vv_aload_n (pc := 5) X (kf := 0) (i := 0) rfl 0 rfl dX9_patternAt_5 ?_
  refine vv_iload_n (pc := 6) X (kf := 1) (i := 1) rfl 1 rfl dX9_patternAt_6 ?_
  refine vv_rcv (fun b4 t9 c9 fs9 e5 g9 k9 => ?_)
  cases List.mem_singleton.mp k9
  refine vv_callI (pc := 7) (rest := []) (by rw [e5]; rfl) (fun r8 k8 e8 => zz_callV X (m_X9_noPattern (hlM X) _ _ _ _ _ e8) g9 rfl rfl q3876 q3878 qs113 q164 q3879 nh_X9 rfl (by decide) (by decide) (Nat.le_of_ble_eq_true rfl) dX9_patternAt_7) (fun v2 h3 => ?_)
  refine vv_if_eq (pc := 10) (tgt := 15) X dX9_patternAt_10 rfl ?_ ?_
  · refine vv_iload_n (pc := 15) X (kf := 2) (i := 2) rfl 2 rfl dX9_patternAt_15 ?_
    refine vv_iconst (pc := 16) X dX9_patternAt_16 ?_
    refine vv_aload_n (pc := 17) X (kf := 0) (i := 0) rfl 0 rfl dX9_patternAt_17 ?_
    refine vv_iload_n (pc := 18) X (kf := 1) (i := 1) rfl 1 rfl dX9_patternAt_18 ?_
    refine vv_iconst (pc := 19) X dX9_patternAt_19 ?_
    refine vv_rcv (fun b8 t9 c9 fs9 e9 g9 k9 => ?_)
    cases List.mem_singleton.mp k9
    refine vv_callI (pc := 20) (rest := [LI 0, LI a2]) (by rw [e9]; rfl) (fun r8 k8 e8 => zz_callV X (m_X9_of (hlM X) _ _ _ _ _ _ e8) g9 rfl rfl q3777 q3779 qs94 q164 q3780 nh_X9 rfl (by decide) (by decide) (Nat.le_of_ble_eq_true rfl) dX9_patternAt_20) (fun v6 h7 => ?_)
    refine vv_iconst (pc := 23) X dX9_patternAt_23 ?_
    refine vv_isub (pc := 24) X dX9_patternAt_24 ?_
    refine vv_callI (pc := 25) (rest := []) (by rfl) (fun r8 k8 e8 => zz_callS X (m_X9_in (hlM X) _ _ _ _ _ _ e8) q3593 q3594 q164 q3595 nh_X9 rfl (by decide) (by decide) (Nat.le_of_ble_eq_true rfl) dX9_patternAt_25) (fun v10 h11 => ?_)
    refine vv_if_eq (pc := 28) (tgt := 43) X dX9_patternAt_28 rfl ?_ ?_
    · refine vv_iconst (pc := 43) X dX9_patternAt_43 ?_
      exact vv_sub [] (by rfl) (B_X9_patternAt_44 X _ _)
    · refine vv_aload_n (pc := 31) X (kf := 0) (i := 0) rfl 0 rfl dX9_patternAt_31 ?_
      refine vv_iload_n (pc := 32) X (kf := 1) (i := 1) rfl 1 rfl dX9_patternAt_32 ?_
      refine vv_bipush (pc := 33) X (by decide) dX9_patternAt_33 ?_
      refine vv_iload_n (pc := 35) X (kf := 2) (i := 2) rfl 2 rfl dX9_patternAt_35 ?_
      refine vv_iadd (pc := 36) X dX9_patternAt_36 ?_
      refine vv_rcv (fun b14 t9 c9 fs9 e15 g9 k9 => ?_)
      cases List.mem_singleton.mp k9
      refine vv_callI (pc := 37) (rest := []) (by rw [e15]; rfl) (fun r8 k8 e8 => zz_callV X (m_X9_of (hlM X) _ _ _ _ _ _ e8) g9 rfl rfl q3777 q3779 qs94 q164 q3780 nh_X9 rfl (by decide) (by decide) (Nat.le_of_ble_eq_true rfl) dX9_patternAt_37) (fun v12 h13 => ?_)
      refine vv_goto (pc := 40) (tgt := 44) X dX9_patternAt_40 rfl ?_
      exact vv_sub [] (by rfl) (B_X9_patternAt_44 X _ _)
  · refine vv_iconst (pc := 13) X dX9_patternAt_13 ?_
    exact vv_iretI X rfl rfl dX9_patternAt_14
theorem m_X9_patternAt {l : Launch} (hl : l.stackTraces = false) {G : va_G} (a0 : Nat) (a1 : Int) (a2 : Int) (h : HP) : ∀ r hf, f_X9_patternAt a0 a1 a2 h = some (r, hf) → Ct l yX9_patternAt (ws_ yX9_patternAt cX9_patternAt 3 (some .int)) 2 59 G h [.ref a0, .int (iI a1), .int (iI a2)] (jI r) hf :=
  zz_ofW hl (by decide +kernel) (lv := [(0, LR (some a0)), (1, LI a1), (2, LI a2)]) (by simp [lv_args, lvL, lvV, zz_rfc, zz_rfs, zz_ci, zz_cr, zz_cj, zz_cf, zz_cd]) (by simp [lg_sl, zz_rfc, zz_ci, zz_cr, zz_cj, zz_cf, zz_cd]) (fun _ X => A_X9_patternAt X a0 a1 a2 h)
-- J31_checkIndex java/util/Objects.checkIndex(II)I
noncomputable def f_J31_checkIndex (a1 : Int) (a2 : Int) (h : HP) : Option ((Int) × HP) :=
  hb (f_J16_checkIndex a1 a2 none h) fun v1 h2 =>
  some (v1, h2)
theorem A_J31_checkIndex {M : hp_M} {G : va_G} {h0 : HP} (X : hp_X M G h0 "java/util/Objects" "checkIndex" cJ31_checkIndex 2 (some .int) [] 1 30) (a1 : Int) (a2 : Int) (h : HP) : vv M G h0 2 (hp_End M G h0) jI h 0 [(0, LI a1), (1, LI a2)] [] (f_J31_checkIndex a1 a2 h) := by
  unfold f_J31_checkIndex
  refine vv_iload_n (pc := 0) X (kf := 0) (i := 0) rfl 0 rfl dJ31_checkIndex_0 ?_
  refine vv_iload_n (pc := 1) X (kf := 1) (i := 1) rfl 1 rfl dJ31_checkIndex_1 ?_
  refine vv_null (pc := 2) X dJ31_checkIndex_2 ?_
  refine vv_callI (pc := 3) (rest := []) (by rfl) (fun r8 k8 e8 => zz_callS X (m_J16_checkIndex (hlM X) _ _ _ _ _ _ e8) q2256 q897 q152 q898 nh_J16 rfl (by decide) (by decide) (Nat.le_of_ble_eq_true rfl) dJ31_checkIndex_3) (fun v1 h2 => ?_)
  exact vv_iretI X rfl rfl dJ31_checkIndex_6
theorem m_J31_checkIndex {l : Launch} (hl : l.stackTraces = false) {G : va_G} (a1 : Int) (a2 : Int) (h : HP) : ∀ r hf, f_J31_checkIndex a1 a2 h = some (r, hf) → Ct l yJ31_checkIndex (ws_ yJ31_checkIndex cJ31_checkIndex 2 (some .int)) 1 30 G h [.int (iI a1), .int (iI a2)] (jI r) hf :=
  zz_ofW hl (by decide +kernel) (lv := [(0, LI a1), (1, LI a2)]) (by simp [lv_args, lvL, lvV, zz_rfc, zz_rfs, zz_ci, zz_cr, zz_cj, zz_cf, zz_cd]) (by simp [lg_sl, zz_rfc, zz_ci, zz_cr, zz_cj, zz_cf, zz_cd]) (fun _ X => A_J31_checkIndex X a1 a2 h)
-- J4_elementData java/util/ArrayList.elementData(I)Ljava/lang/Object;
noncomputable def f_J4_elementData (a0 : Nat) (a1 : Int) (h : HP) : Option ((Option Nat) × HP) :=
  (rdR h (some a0) [24] 1).bind fun v1 =>
  (aldR h "java/lang/Object" v1 a1).bind fun v2 =>
  some (v2, h)
theorem A_J4_elementData {M : hp_M} {G : va_G} {h0 : HP} (X : hp_X M G h0 "java/util/ArrayList" "elementData" cJ4_elementData 2 (some (.object "java/lang/Object")) [] 0 0) (a0 : Nat) (a1 : Int) (h : HP) : vv M G h0 2 (hp_End M G h0) jR h 0 [(0, LR (some a0)), (1, LI a1)] [] (f_J4_elementData a0 a1 h) := by
  unfold f_J4_elementData
  refine vv_aload_n (pc := 0) X (kf := 0) (i := 0) rfl 0 rfl dJ4_elementData_0 ?_
  refine vv_getR (pc := 1) X (fun _ z => by cases List.mem_singleton.mp z; exact fl_J4_9_24) dJ4_elementData_1 (fun v1 => ?_)
  refine vv_iload_n (pc := 4) X (kf := 1) (i := 1) rfl 1 rfl dJ4_elementData_4 ?_
  refine vv_aaload (pc := 5) X dJ4_elementData_5 (fun v2 => ?_)
  exact vv_aretO X rfl rfl dJ4_elementData_6
theorem m_J4_elementData {l : Launch} (hl : l.stackTraces = false) {G : va_G} (a0 : Nat) (a1 : Int) (h : HP) : ∀ r hf, f_J4_elementData a0 a1 h = some (r, hf) → Ct l yJ4_elementData (ws_ yJ4_elementData cJ4_elementData 2 (some (.object "java/lang/Object"))) 0 0 G h [.ref a0, .int (iI a1)] (jR r) hf :=
  zz_ofW hl (by decide +kernel) (lv := [(0, LR (some a0)), (1, LI a1)]) (by simp [lv_args, lvL, lvV, zz_rfc, zz_rfs, zz_ci, zz_cr, zz_cj, zz_cf, zz_cd]) (by simp [lg_sl, zz_rfc, zz_ci, zz_cr, zz_cj, zz_cf, zz_cd]) (fun _ X => A_J4_elementData X a0 a1 h)
-- J4_get java/util/ArrayList.get(I)Ljava/lang/Object;
noncomputable def f_J4_get (a0 : Nat) (a1 : Int) (h : HP) : Option ((Option Nat) × HP) :=
  (rdI h (some a0) [24] 2).bind fun v1 =>
  hb (f_J31_checkIndex a1 v1 h) fun v2 h3 =>
  (rcv h3 (some a0) [24]).bind fun b6 =>
  hb (f_J4_elementData b6 a1 h3) fun v4 h5 =>
  some (v4, h5)
theorem A_J4_get {M : hp_M} {G : va_G} {h0 : HP} (X : hp_X M G h0 "java/util/ArrayList" "get" cJ4_get 2 (some (.object "java/lang/Object")) [] 2 59) (a0 : Nat) (a1 : Int) (h : HP) : vv M G h0 2 (hp_End M G h0) jR h 0 [(0, LR (some a0)), (1, LI a1)] [] (f_J4_get a0 a1 h) := by
  unfold f_J4_get
  refine vv_iload_n (pc := 0) X (kf := 1) (i := 1) rfl 1 rfl dJ4_get_0 ?_
  refine vv_aload_n (pc := 1) X (kf := 0) (i := 0) rfl 0 rfl dJ4_get_1 ?_
  refine vv_getI (pc := 2) X (fun _ z => by cases List.mem_singleton.mp z; exact fl_J4_48_24) dJ4_get_2 (fun v1 => ?_)
  refine vv_callI (pc := 5) (rest := []) (by rfl) (fun r8 k8 e8 => zz_callS X (m_J31_checkIndex (hlM X) _ _ _ _ _ e8) q2253 q2254 q193 q2255 nh_J31 rfl (by decide) (by decide) (Nat.le_of_ble_eq_true rfl) dJ4_get_5) (fun v2 h3 => ?_)
  refine vv_pop (pc := 8) X rfl dJ4_get_8 ?_
  refine vv_aload_n (pc := 9) X (kf := 0) (i := 0) rfl 0 rfl dJ4_get_9 ?_
  refine vv_iload_n (pc := 10) X (kf := 1) (i := 1) rfl 1 rfl dJ4_get_10 ?_
  refine vv_rcv (fun b6 t9 c9 fs9 e7 g9 k9 => ?_)
  cases List.mem_singleton.mp k9
  refine vv_callR (pc := 11) (rest := []) (by rw [e7]; rfl) (fun r8 k8 e8 => zz_callV X (m_J4_elementData (hlM X) _ _ _ _ _ e8) g9 rfl rfl q2257 q2258 q2259 q139 q2260 nh_J4 rfl (by decide) (by decide) (Nat.le_of_ble_eq_true rfl) dJ4_get_11) (fun v4 h5 => ?_)
  exact vv_aretO X rfl rfl dJ4_get_14
theorem m_J4_get {l : Launch} (hl : l.stackTraces = false) {G : va_G} (a0 : Nat) (a1 : Int) (h : HP) : ∀ r hf, f_J4_get a0 a1 h = some (r, hf) → Ct l yJ4_get (ws_ yJ4_get cJ4_get 2 (some (.object "java/lang/Object"))) 2 59 G h [.ref a0, .int (iI a1)] (jR r) hf :=
  zz_ofW hl (by decide +kernel) (lv := [(0, LR (some a0)), (1, LI a1)]) (by simp [lv_args, lvL, lvV, zz_rfc, zz_rfs, zz_ci, zz_cr, zz_cj, zz_cf, zz_cd]) (by simp [lg_sl, zz_rfc, zz_ci, zz_cr, zz_cj, zz_cf, zz_cd]) (fun _ X => A_J4_get X a0 a1 h)
-- X1_letter RenamedWords.letter(II)I
noncomputable def b_X1_letter_54 (s0 : Int) (h : HP) : Option ((Nat ⊕ Int) × HP) :=
  some (.inr s0, h)
theorem B_X1_letter_54 {M : hp_M} {G : va_G} {h0 : HP} (X : hp_X M G h0 "RenamedWords" "letter" cX1_letter 5 (some .int) [] 8 154) (s0 : Int) (h : HP) : vv M G h0 5 (hp_End M G h0) xI h 54 [] [LI s0] (b_X1_letter_54 s0 h) := by
  unfold b_X1_letter_54
  exact vv_iretI X rfl rfl dX1_letter_54
noncomputable def f_X1_letter (a0 : Nat) (a1 : Int) (a2 : Int) (h : HP) : Option ((Nat ⊕ Int) × HP) :=
  (rcv h (some a0) [0]).bind fun b3 =>
  hbx (f_X1_patternAt b3 a1 h) (fun q5 h6 =>
      some (.inl q5, h6)) fun v1 h2 =>
  (rdR h2 (some a0) [0] 0).bind fun v7 =>
  (rdR h2 v7 [1] 1).bind fun v8 =>
  (rdR h2 v8 [2] 1).bind fun v9 =>
  (rcv h2 v9 [24]).bind fun b12 =>
  hb (f_J4_get b12 a1 h2) fun v10 h11 =>
  (chk h11 v10 [26]).bind fun _ =>
  (rcv h11 v10 [26]).bind fun b16 =>
  hb (f_J11_length b16 h11) fun v14 h15 =>
  hb (f_X1_in (iL a2) 0 (iL (v14 - 1)) h15) fun v18 h19 =>
  iEQ v18 0
    (b_X1_letter_54 (-1) h19)
    ((rcv h19 v10 [26]).bind fun b22 =>
    hb (f_J11_charAt b22 a2 h19) fun v20 h21 =>
    b_X1_letter_54 v20 h21)
theorem A_X1_letter {M : hp_M} {G : va_G} {h0 : HP} (X : hp_X M G h0 "RenamedWords" "letter" cX1_letter 5 (some .int) [] 8 154) (a0 : Nat) (a1 : Int) (a2 : Int) (h : HP) : vv M G h0 5 (hp_End M G h0) xI h 0 [(0, LR (some a0)), (1, LI a1), (2, LI a2)] [] (f_X1_letter a0 a1 a2 h) := by
  unfold f_X1_letter
  refine vv_aload_n (pc := 0) X (kf := 0) (i := 0) rfl 0 rfl dX1_letter_0 ?_
  refine vv_iload_n (pc := 1) X (kf := 1) (i := 1) rfl 1 rfl dX1_letter_1 ?_
  refine vv_rcv (fun b3 t9 c9 fs9 e4 g9 k9 => ?_)
  cases List.mem_singleton.mp k9
  refine vv_xallR (pc := 2) (rest := []) (by rw [e4]; rfl) (fun r8 k8 e8 => zz_callV X (m_X1_patternAt (hlM X) _ _ _ _ _ e8) g9 rfl rfl q3102 q3104 qs47 q132 q3105 nh_X1 rfl (by decide) (by decide) (Nat.le_of_ble_eq_true rfl) dX1_letter_2) (fun v1 h2 => ?_) (fun q5 h6 => ?_)
  · refine vv_astore_n (pc := 5) (lv' := [(3, LR v1), (0, LR (some a0)), (1, LI a1), (2, LI a2)]) X (kf := 3) (i := 3) rfl (by decide) rfl dX1_letter_5 ?_
    refine vv_aload_n (pc := 6) X (kf := 0) (i := 0) rfl 1 rfl dX1_letter_6 ?_
    refine vv_getR (pc := 7) X (fun _ z => by cases List.mem_singleton.mp z; exact fl_X1_35_0) dX1_letter_7 (fun v7 => ?_)
    refine vv_getR (pc := 10) X (fun _ z => by cases List.mem_singleton.mp z; exact fl_X1_276_1) dX1_letter_10 (fun v8 => ?_)
    refine vv_getR (pc := 13) X (fun _ z => by cases List.mem_singleton.mp z; exact fl_X1_280_2) dX1_letter_13 (fun v9 => ?_)
    refine vv_iload_n (pc := 16) X (kf := 1) (i := 1) rfl 2 rfl dX1_letter_16 ?_
    refine vv_rcv (fun b12 t9 c9 fs9 e13 g9 k9 => ?_)
    cases List.mem_singleton.mp k9
    refine vv_callR (pc := 17) (rest := []) (by rw [e13]; rfl) (fun r8 k8 e8 => zz_callF X (m_J4_get (hlM X) _ _ _ _ _ e8) g9 rfl q2967 (List.mem_of_getElem? (i := 4) rfl) q2251 q2970 q139 q2252 nh_xjava_util_List rfl (by decide) (by decide) (Nat.le_of_ble_eq_true rfl) dX1_letter_17) (fun v10 h11 => ?_)
    refine vv_checkcast (pc := 22) X ⟨q2976, (fun _ z => by cases List.mem_singleton.mp z; exact ⟨_, rfl, Or.inl rfl⟩)⟩ dX1_letter_22 ?_
    refine vv_astore (pc := 25) (lv' := [(4, LR v10), (3, LR v1), (0, LR (some a0)), (1, LI a1), (2, LI a2)]) X (by decide) rfl dX1_letter_25 ?_
    refine vv_iload_n (pc := 27) X (kf := 2) (i := 2) rfl 4 rfl dX1_letter_27 ?_
    refine vv_i2l (pc := 28) X dX1_letter_28 ?_
    refine vv_lconst (pc := 29) (v := 0) X (by decide) dX1_letter_29 ?_
    refine vv_aload (pc := 30) X 0 rfl dX1_letter_30 ?_
    refine vv_rcv (fun b16 t9 c9 fs9 e17 g9 k9 => ?_)
    cases List.mem_singleton.mp k9
    refine vv_callI (pc := 32) (rest := [LJ 0, LJ (iL a2)]) (by rw [e17]; rfl) (fun r8 k8 e8 => zz_callV X (m_J11_length (hlM X) _ _ _ _ e8) g9 rfl rfl q2979 q429 q430 q146 q431 nh_J11 rfl (by decide) (by decide) (Nat.le_of_ble_eq_true rfl) dX1_letter_32) (fun v14 h15 => ?_)
    refine vv_iconst (pc := 35) X dX1_letter_35 ?_
    refine vv_isub (pc := 36) X dX1_letter_36 ?_
    refine vv_i2l (pc := 37) X dX1_letter_37 ?_
    refine vv_callI (pc := 38) (rest := []) (by rfl) (fun r8 k8 e8 => zz_callS X (m_X1_in (hlM X) _ _ _ _ _ _ e8) q2984 q873 q132 q874 nh_X1 rfl (by decide) (by decide) (Nat.le_of_ble_eq_true rfl) dX1_letter_38) (fun v18 h19 => ?_)
    refine vv_if_eq (pc := 41) (tgt := 53) X dX1_letter_41 rfl ?_ ?_
    · refine vv_iconst (pc := 53) X dX1_letter_53 ?_
      exact vv_sub [] (by rfl) (B_X1_letter_54 X _ _)
    · refine vv_aload (pc := 44) X 0 rfl dX1_letter_44 ?_
      refine vv_iload_n (pc := 46) X (kf := 2) (i := 2) rfl 4 rfl dX1_letter_46 ?_
      refine vv_rcv (fun b22 t9 c9 fs9 e23 g9 k9 => ?_)
      cases List.mem_singleton.mp k9
      refine vv_callI (pc := 47) (rest := []) (by rw [e23]; rfl) (fun r8 k8 e8 => zz_callV X (m_J11_charAt (hlM X) _ _ _ _ _ e8) g9 rfl rfl q2985 q1021 q1022 q146 q1023 nh_J11 rfl (by decide) (by decide) (Nat.le_of_ble_eq_true rfl) dX1_letter_47) (fun v20 h21 => ?_)
      refine vv_goto (pc := 50) (tgt := 54) X dX1_letter_50 rfl ?_
      exact vv_sub [] (by rfl) (B_X1_letter_54 X _ _)
  · exact vvx_out X (by decide) rfl
theorem m_X1_letter {l : Launch} (hl : l.stackTraces = false) {G : va_G} (a0 : Nat) (a1 : Int) (a2 : Int) (h : HP) : ∀ r hf, f_X1_letter a0 a1 a2 h = some (r, hf) → Ct l yX1_letter (ws_ yX1_letter cX1_letter 5 (some .int)) 8 154 G h [.ref a0, .int (iI a1), .int (iI a2)] (xI r) hf :=
  zz_ofW hl (by decide +kernel) (lv := [(0, LR (some a0)), (1, LI a1), (2, LI a2)]) (by simp [lv_args, lvL, lvV, zz_rfc, zz_rfs, zz_ci, zz_cr, zz_cj, zz_cf, zz_cd]) (by simp [lg_sl, zz_rfc, zz_ci, zz_cr, zz_cj, zz_cf, zz_cd]) (fun _ X => A_X1_letter X a0 a1 a2 h)
-- X0_letter RenamedWordsLaw.letter(LRenamedWords;II[J)I
noncomputable def b_X0_letter_13 (s0 : Option Nat) (h : HP) : Option ((Int) × HP) :=
  some (1, h)
theorem B_X0_letter_13 {M : hp_M} {G : va_G} {h0 : HP} (X : hp_X M G h0 "RenamedWordsLaw" "letter" cX0_letter 5 (some .int) (tableOf [(0, 10, 13, 18)]) 9 186) (s0 : Option Nat) (h : HP) : vv M G h0 5 (hp_End M G h0) jI h 13 [] [LR s0] (b_X0_letter_13 s0 h) := by
  unfold b_X0_letter_13
  refine vv_astore (pc := 13) (lv' := [(4, LR s0)]) X (by decide) rfl dX0_letter_13 ?_
  refine vv_iconst (pc := 15) X dX0_letter_15 ?_
  exact vv_iretI X rfl rfl dX0_letter_16
noncomputable def f_X0_letter (a1 : Option Nat) (a2 : Int) (a3 : Int) (a4 : Option Nat) (h : HP) : Option ((Int) × HP) :=
  (rcv h a1 [0]).bind fun b3 =>
  hbx (f_X1_letter b3 a2 a3 h) (fun q5 h6 =>
      (clsOf h6 q5).bind fun c7 =>
      if c7 = 35 then
        b_X0_letter_13 (some q5) h6
      else
        none) fun v1 h2 =>
  (astJ h2 a4 0 (iL v1)).bind fun h8 =>
  some (0, h8)
theorem A_X0_letter {M : hp_M} {G : va_G} {h0 : HP} (X : hp_X M G h0 "RenamedWordsLaw" "letter" cX0_letter 5 (some .int) (tableOf [(0, 10, 13, 18)]) 9 186) (a1 : Option Nat) (a2 : Int) (a3 : Int) (a4 : Option Nat) (h : HP) : vv M G h0 5 (hp_End M G h0) jI h 0 [(0, LR a1), (1, LI a2), (2, LI a3), (3, LR a4)] [] (f_X0_letter a1 a2 a3 a4 h) := by
  unfold f_X0_letter
  refine vv_aload_n (pc := 0) X (kf := 3) (i := 3) rfl 3 rfl dX0_letter_0 ?_
  refine vv_iconst (pc := 1) X dX0_letter_1 ?_
  refine vv_aload_n (pc := 2) X (kf := 0) (i := 0) rfl 0 rfl dX0_letter_2 ?_
  refine vv_iload_n (pc := 3) X (kf := 1) (i := 1) rfl 1 rfl dX0_letter_3 ?_
  refine vv_iload_n (pc := 4) X (kf := 2) (i := 2) rfl 2 rfl dX0_letter_4 ?_
  refine vv_rcv (fun b3 t9 c9 fs9 e4 g9 k9 => ?_)
  cases List.mem_singleton.mp k9
  refine vv_xallI (pc := 5) (rest := [LI 0, LR a4]) (by rw [e4]; rfl) (fun r8 k8 e8 => zz_callV X (m_X1_letter (hlM X) _ _ _ _ _ _ e8) g9 rfl rfl q3157 q3158 q3159 q132 q3160 nh_X1 rfl (by decide) (by decide) (Nat.le_of_ble_eq_true rfl) dX0_letter_5) (fun v1 h2 => ?_) (fun q5 h6 => ?_)
  · refine vv_i2l (pc := 8) X dX0_letter_8 ?_
    refine vv_lastore (pc := 9) X dX0_letter_9 (fun h8 => ?_)
    refine vv_goto (pc := 10) (tgt := 17) X dX0_letter_10 rfl ?_
    refine vv_iconst (pc := 17) X dX0_letter_17 ?_
    exact vv_iretI X rfl rfl dX0_letter_18
  · refine vvx_cls (fun _ c7 _ g9 => ?_)
    refine vvx_if (fun e9 => ?_) (fun _ => ?_)
    · subst e9
      refine vvx_catch X g9 rfl [] ⟨0, 10, 13, 18⟩ [] rfl (fun z hz => nomatch hz) rfl (by decide) q3041 q2274 ?_
      exact vv_sub [] (by rfl) (B_X0_letter_13 X _ _)
    · exact vvx_none
theorem m_X0_letter {l : Launch} (hl : l.stackTraces = false) {G : va_G} (a1 : Option Nat) (a2 : Int) (a3 : Int) (a4 : Option Nat) (h : HP) : ∀ r hf, f_X0_letter a1 a2 a3 a4 h = some (r, hf) → Ct l yX0_letter (wsW_ yX0_letter cX0_letter 5 (some .int) [(0, 10, 13, 18)]) 9 186 G h [va_rf a1, .int (iI a2), .int (iI a3), va_rf a4] (jI r) hf :=
  zz_ofWH hl (by decide +kernel) (lv := [(0, LR a1), (1, LI a2), (2, LI a3), (3, LR a4)]) (by simp [lv_args, lvL, lvV, zz_rfc, zz_rfs, zz_ci, zz_cr, zz_cj, zz_cf, zz_cd]) (by simp [lg_sl, zz_rfc, zz_ci, zz_cr, zz_cj, zz_cf, zz_cd]) (fun _ X => A_X0_letter X a1 a2 a3 a4 h)
-- X9_letter RenamedWordsModel.letter(II)I
noncomputable def b_X9_letter_43 (s0 : Int) (h : HP) : Option ((Int) × HP) :=
  some (s0, h)
theorem B_X9_letter_43 {M : hp_M} {G : va_G} {h0 : HP} (X : hp_X M G h0 "RenamedWordsModel" "letter" cX9_letter 3 (some .int) [] 2 59) (s0 : Int) (h : HP) : vv M G h0 3 (hp_End M G h0) jI h 43 [] [LI s0] (b_X9_letter_43 s0 h) := by
  unfold b_X9_letter_43
  exact vv_iretI X rfl rfl dX9_letter_43
noncomputable def f_X9_letter (a0 : Nat) (a1 : Int) (a2 : Int) (h : HP) : Option ((Int) × HP) :=
  (wrI h (some a0) [7] 7 0).bind fun h1 =>
  (rcv h1 (some a0) [7]).bind fun b4 =>
  hb (f_X9_noPattern b4 a1 h1) fun v2 h3 =>
  iEQ v2 0
    ((rcv h3 (some a0) [7]).bind fun b8 =>
    hb (f_X9_of b8 a1 1 h3) fun v6 h7 =>
    hb (f_X9_in a2 0 (v6 - 1) h7) fun v10 h11 =>
    iEQ v10 0
      (b_X9_letter_43 (-1) h11)
      ((rcv h11 (some a0) [7]).bind fun b14 =>
      hb (f_X9_of b14 a1 (2 + a2) h11) fun v12 h13 =>
      b_X9_letter_43 v12 h13))
    (some (0, h3))
theorem A_X9_letter {M : hp_M} {G : va_G} {h0 : HP} (X : hp_X M G h0 "RenamedWordsModel" "letter" cX9_letter 3 (some .int) [] 2 59) (a0 : Nat) (a1 : Int) (a2 : Int) (h : HP) : vv M G h0 3 (hp_End M G h0) jI h 0 [(0, LR (some a0)), (1, LI a1), (2, LI a2)] [] (f_X9_letter a0 a1 a2 h) := by
  unfold f_X9_letter
  refine vv_aload_n (pc := 0) X (kf := 0) (i := 0) rfl 0 rfl dX9_letter_0 ?_
  refine vv_iconst (pc := 1) X dX9_letter_1 ?_
  refine vv_putI (pc := 2) (fin := false) X (fun _ z => by cases List.mem_singleton.mp z; exact fl_X9_69_7) (fun z => nomatch z) (fun z => nomatch z) dX9_letter_2 (fun h1 => ?_)
  refine vv_aload_n (pc := 5) X (kf := 0) (i := 0) rfl 0 rfl dX9_letter_5 ?_
  refine vv_iload_n (pc := 6) X (kf := 1) (i := 1) rfl 1 rfl dX9_letter_6 ?_
  refine vv_rcv (fun b4 t9 c9 fs9 e5 g9 k9 => ?_)
  cases List.mem_singleton.mp k9
  refine vv_callI (pc := 7) (rest := []) (by rw [e5]; rfl) (fun r8 k8 e8 => zz_callV X (m_X9_noPattern (hlM X) _ _ _ _ _ e8) g9 rfl rfl q3876 q3878 qs113 q164 q3879 nh_X9 rfl (by decide) (by decide) (Nat.le_of_ble_eq_true rfl) dX9_letter_7) (fun v2 h3 => ?_)
  refine vv_if_eq (pc := 10) (tgt := 15) X dX9_letter_10 rfl ?_ ?_
  · refine vv_iload_n (pc := 15) X (kf := 2) (i := 2) rfl 2 rfl dX9_letter_15 ?_
    refine vv_iconst (pc := 16) X dX9_letter_16 ?_
    refine vv_aload_n (pc := 17) X (kf := 0) (i := 0) rfl 0 rfl dX9_letter_17 ?_
    refine vv_iload_n (pc := 18) X (kf := 1) (i := 1) rfl 1 rfl dX9_letter_18 ?_
    refine vv_iconst (pc := 19) X dX9_letter_19 ?_
    refine vv_rcv (fun b8 t9 c9 fs9 e9 g9 k9 => ?_)
    cases List.mem_singleton.mp k9
    refine vv_callI (pc := 20) (rest := [LI 0, LI a2]) (by rw [e9]; rfl) (fun r8 k8 e8 => zz_callV X (m_X9_of (hlM X) _ _ _ _ _ _ e8) g9 rfl rfl q3777 q3779 qs94 q164 q3780 nh_X9 rfl (by decide) (by decide) (Nat.le_of_ble_eq_true rfl) dX9_letter_20) (fun v6 h7 => ?_)
    refine vv_iconst (pc := 23) X dX9_letter_23 ?_
    refine vv_isub (pc := 24) X dX9_letter_24 ?_
    refine vv_callI (pc := 25) (rest := []) (by rfl) (fun r8 k8 e8 => zz_callS X (m_X9_in (hlM X) _ _ _ _ _ _ e8) q3593 q3594 q164 q3595 nh_X9 rfl (by decide) (by decide) (Nat.le_of_ble_eq_true rfl) dX9_letter_25) (fun v10 h11 => ?_)
    refine vv_if_eq (pc := 28) (tgt := 42) X dX9_letter_28 rfl ?_ ?_
    · refine vv_iconst (pc := 42) X dX9_letter_42 ?_
      exact vv_sub [] (by rfl) (B_X9_letter_43 X _ _)
    · refine vv_aload_n (pc := 31) X (kf := 0) (i := 0) rfl 0 rfl dX9_letter_31 ?_
      refine vv_iload_n (pc := 32) X (kf := 1) (i := 1) rfl 1 rfl dX9_letter_32 ?_
      refine vv_iconst (pc := 33) X dX9_letter_33 ?_
      refine vv_iload_n (pc := 34) X (kf := 2) (i := 2) rfl 2 rfl dX9_letter_34 ?_
      refine vv_iadd (pc := 35) X dX9_letter_35 ?_
      refine vv_rcv (fun b14 t9 c9 fs9 e15 g9 k9 => ?_)
      cases List.mem_singleton.mp k9
      refine vv_callI (pc := 36) (rest := []) (by rw [e15]; rfl) (fun r8 k8 e8 => zz_callV X (m_X9_of (hlM X) _ _ _ _ _ _ e8) g9 rfl rfl q3777 q3779 qs94 q164 q3780 nh_X9 rfl (by decide) (by decide) (Nat.le_of_ble_eq_true rfl) dX9_letter_36) (fun v12 h13 => ?_)
      refine vv_goto (pc := 39) (tgt := 43) X dX9_letter_39 rfl ?_
      exact vv_sub [] (by rfl) (B_X9_letter_43 X _ _)
  · refine vv_iconst (pc := 13) X dX9_letter_13 ?_
    exact vv_iretI X rfl rfl dX9_letter_14
theorem m_X9_letter {l : Launch} (hl : l.stackTraces = false) {G : va_G} (a0 : Nat) (a1 : Int) (a2 : Int) (h : HP) : ∀ r hf, f_X9_letter a0 a1 a2 h = some (r, hf) → Ct l yX9_letter (ws_ yX9_letter cX9_letter 3 (some .int)) 2 59 G h [.ref a0, .int (iI a1), .int (iI a2)] (jI r) hf :=
  zz_ofW hl (by decide +kernel) (lv := [(0, LR (some a0)), (1, LI a1), (2, LI a2)]) (by simp [lv_args, lvL, lvV, zz_rfc, zz_rfs, zz_ci, zz_cr, zz_cj, zz_cf, zz_cd]) (by simp [lg_sl, zz_rfc, zz_ci, zz_cr, zz_cj, zz_cf, zz_cd]) (fun _ X => A_X9_letter X a0 a1 a2 h)
-- X1_border RenamedWords.border(II)I
noncomputable def f_X1_border (a0 : Nat) (a1 : Int) (a2 : Int) (h : HP) : Option ((Nat ⊕ Int) × HP) :=
  (rcv h (some a0) [0]).bind fun b3 =>
  hbx (f_X1_patternAt b3 a1 h) (fun q5 h6 =>
      some (.inl q5, h6)) fun v1 h2 =>
  (rcv h2 v1 [11]).bind fun b9 =>
  hb (f_X14_many b9 h2) fun v7 h8 =>
  hb (f_X1_in (iL a2) 1 (iL v7) h8) fun v11 h12 =>
  hbx (f_X1_argument v11 h12) (fun q15 h16 =>
      some (.inl q15, h16)) fun _ h14 =>
  (rdR h14 (some a0) [0] 0).bind fun v17 =>
  (rcv h14 v17 [1]).bind fun b20 =>
  hb (f_X2_border b20 a1 a2 h14) fun v18 h19 =>
  some (.inr v18, h19)
theorem A_X1_border {M : hp_M} {G : va_G} {h0 : HP} (X : hp_X M G h0 "RenamedWords" "border" cX1_border 4 (some .int) [] 8 245) (a0 : Nat) (a1 : Int) (a2 : Int) (h : HP) : vv M G h0 4 (hp_End M G h0) xI h 0 [(0, LR (some a0)), (1, LI a1), (2, LI a2)] [] (f_X1_border a0 a1 a2 h) := by
  unfold f_X1_border
  refine vv_aload_n (pc := 0) X (kf := 0) (i := 0) rfl 0 rfl dX1_border_0 ?_
  refine vv_iload_n (pc := 1) X (kf := 1) (i := 1) rfl 1 rfl dX1_border_1 ?_
  refine vv_rcv (fun b3 t9 c9 fs9 e4 g9 k9 => ?_)
  cases List.mem_singleton.mp k9
  refine vv_xallR (pc := 2) (rest := []) (by rw [e4]; rfl) (fun r8 k8 e8 => zz_callV X (m_X1_patternAt (hlM X) _ _ _ _ _ e8) g9 rfl rfl q3102 q3104 qs47 q132 q3105 nh_X1 rfl (by decide) (by decide) (Nat.le_of_ble_eq_true rfl) dX1_border_2) (fun v1 h2 => ?_) (fun q5 h6 => ?_)
  · refine vv_astore_n (pc := 5) (lv' := [(3, LR v1), (0, LR (some a0)), (1, LI a1), (2, LI a2)]) X (kf := 3) (i := 3) rfl (by decide) rfl dX1_border_5 ?_
    refine vv_iload_n (pc := 6) X (kf := 2) (i := 2) rfl 3 rfl dX1_border_6 ?_
    refine vv_i2l (pc := 7) X dX1_border_7 ?_
    refine vv_lconst (pc := 8) (v := 1) X (by decide) dX1_border_8 ?_
    refine vv_aload_n (pc := 9) X (kf := 3) (i := 3) rfl 0 rfl dX1_border_9 ?_
    refine vv_rcv (fun b9 t9 c9 fs9 e10 g9 k9 => ?_)
    cases List.mem_singleton.mp k9
    refine vv_callI (pc := 10) (rest := [LJ 1, LJ (iL a2)]) (by rw [e10]; rfl) (fun r8 k8 e8 => zz_callV X (m_X14_many (hlM X) _ _ _ _ e8) g9 rfl rfl q2881 q2601 q2602 q174 q2603 nh_X14 rfl (by decide) (by decide) (Nat.le_of_ble_eq_true rfl) dX1_border_10) (fun v7 h8 => ?_)
    refine vv_i2l (pc := 13) X dX1_border_13 ?_
    refine vv_callI (pc := 14) (rest := []) (by rfl) (fun r8 k8 e8 => zz_callS X (m_X1_in (hlM X) _ _ _ _ _ _ e8) q2984 q873 q132 q874 nh_X1 rfl (by decide) (by decide) (Nat.le_of_ble_eq_true rfl) dX1_border_14) (fun v11 h12 => ?_)
    refine vv_xallV (pc := 17) (rest := []) (by rfl) (fun r8 k8 e8 => zz_callS X (m_X1_argument (hlM X) _ _ _ _ e8) q3090 q3091 q132 q3092 nh_X1 rfl (by decide) (by decide) (Nat.le_of_ble_eq_true rfl) dX1_border_17) (fun v13 h14 => ?_) (fun q15 h16 => ?_)
    · refine vv_aload_n (pc := 20) X (kf := 0) (i := 0) rfl 1 rfl dX1_border_20 ?_
      refine vv_getR (pc := 21) X (fun _ z => by cases List.mem_singleton.mp z; exact fl_X1_35_0) dX1_border_21 (fun v17 => ?_)
      refine vv_iload_n (pc := 24) X (kf := 1) (i := 1) rfl 2 rfl dX1_border_24 ?_
      refine vv_iload_n (pc := 25) X (kf := 2) (i := 2) rfl 3 rfl dX1_border_25 ?_
      refine vv_rcv (fun b20 t9 c9 fs9 e21 g9 k9 => ?_)
      cases List.mem_singleton.mp k9
      refine vv_callI (pc := 26) (rest := []) (by rw [e21]; rfl) (fun r8 k8 e8 => zz_callV X (m_X2_border (hlM X) _ _ _ _ _ _ e8) g9 rfl rfl q3115 q3116 q3117 q133 q3118 nh_X2 rfl (by decide) (by decide) (Nat.le_of_ble_eq_true rfl) dX1_border_26) (fun v18 h19 => ?_)
      exact vv_iretI X rfl rfl dX1_border_29
    · exact vvx_out X (by decide) rfl
  · exact vvx_out X (by decide) rfl
theorem m_X1_border {l : Launch} (hl : l.stackTraces = false) {G : va_G} (a0 : Nat) (a1 : Int) (a2 : Int) (h : HP) : ∀ r hf, f_X1_border a0 a1 a2 h = some (r, hf) → Ct l yX1_border (ws_ yX1_border cX1_border 4 (some .int)) 8 245 G h [.ref a0, .int (iI a1), .int (iI a2)] (xI r) hf :=
  zz_ofW hl (by decide +kernel) (lv := [(0, LR (some a0)), (1, LI a1), (2, LI a2)]) (by simp [lv_args, lvL, lvV, zz_rfc, zz_rfs, zz_ci, zz_cr, zz_cj, zz_cf, zz_cd]) (by simp [lg_sl, zz_rfc, zz_ci, zz_cr, zz_cj, zz_cf, zz_cd]) (fun _ X => A_X1_border X a0 a1 a2 h)
-- X0_border RenamedWordsLaw.border(LRenamedWords;II[J)I
noncomputable def b_X0_border_17 (s0 : Option Nat) (h : HP) : Option ((Int) × HP) :=
  some (2, h)
theorem B_X0_border_17 {M : hp_M} {G : va_G} {h0 : HP} (X : hp_X M G h0 "RenamedWordsLaw" "border" cX0_border 5 (some .int) (tableOf [(0, 10, 13, 18), (0, 10, 17, 13)]) 9 276) (s0 : Option Nat) (h : HP) : vv M G h0 5 (hp_End M G h0) jI h 17 [] [LR s0] (b_X0_border_17 s0 h) := by
  unfold b_X0_border_17
  refine vv_astore (pc := 17) (lv' := [(4, LR s0)]) X (by decide) rfl dX0_border_17 ?_
  refine vv_iconst (pc := 19) X dX0_border_19 ?_
  exact vv_iretI X rfl rfl dX0_border_20
noncomputable def b_X0_border_13 (s0 : Option Nat) (h : HP) : Option ((Int) × HP) :=
  some (1, h)
theorem B_X0_border_13 {M : hp_M} {G : va_G} {h0 : HP} (X : hp_X M G h0 "RenamedWordsLaw" "border" cX0_border 5 (some .int) (tableOf [(0, 10, 13, 18), (0, 10, 17, 13)]) 9 276) (s0 : Option Nat) (h : HP) : vv M G h0 5 (hp_End M G h0) jI h 13 [] [LR s0] (b_X0_border_13 s0 h) := by
  unfold b_X0_border_13
  refine vv_astore (pc := 13) (lv' := [(4, LR s0)]) X (by decide) rfl dX0_border_13 ?_
  refine vv_iconst (pc := 15) X dX0_border_15 ?_
  exact vv_iretI X rfl rfl dX0_border_16
noncomputable def f_X0_border (a1 : Option Nat) (a2 : Int) (a3 : Int) (a4 : Option Nat) (h : HP) : Option ((Int) × HP) :=
  (rcv h a1 [0]).bind fun b3 =>
  hbx (f_X1_border b3 a2 a3 h) (fun q5 h6 =>
      (clsOf h6 q5).bind fun c7 =>
      if c7 = 35 then
        b_X0_border_13 (some q5) h6
      else
        if c7 = 36 then
          b_X0_border_17 (some q5) h6
        else
          none) fun v1 h2 =>
  (astJ h2 a4 0 (iL v1)).bind fun h8 =>
  some (0, h8)
theorem A_X0_border {M : hp_M} {G : va_G} {h0 : HP} (X : hp_X M G h0 "RenamedWordsLaw" "border" cX0_border 5 (some .int) (tableOf [(0, 10, 13, 18), (0, 10, 17, 13)]) 9 276) (a1 : Option Nat) (a2 : Int) (a3 : Int) (a4 : Option Nat) (h : HP) : vv M G h0 5 (hp_End M G h0) jI h 0 [(0, LR a1), (1, LI a2), (2, LI a3), (3, LR a4)] [] (f_X0_border a1 a2 a3 a4 h) := by
  unfold f_X0_border
  refine vv_aload_n (pc := 0) X (kf := 3) (i := 3) rfl 3 rfl dX0_border_0 ?_
  refine vv_iconst (pc := 1) X dX0_border_1 ?_
  refine vv_aload_n (pc := 2) X (kf := 0) (i := 0) rfl 0 rfl dX0_border_2 ?_
  refine vv_iload_n (pc := 3) X (kf := 1) (i := 1) rfl 1 rfl dX0_border_3 ?_
  refine vv_iload_n (pc := 4) X (kf := 2) (i := 2) rfl 2 rfl dX0_border_4 ?_
  refine vv_rcv (fun b3 t9 c9 fs9 e4 g9 k9 => ?_)
  cases List.mem_singleton.mp k9
  refine vv_xallI (pc := 5) (rest := [LI 0, LR a4]) (by rw [e4]; rfl) (fun r8 k8 e8 => zz_callV X (m_X1_border (hlM X) _ _ _ _ _ _ e8) g9 rfl rfl q3164 q3165 q3166 q132 q3167 nh_X1 rfl (by decide) (by decide) (Nat.le_of_ble_eq_true rfl) dX0_border_5) (fun v1 h2 => ?_) (fun q5 h6 => ?_)
  · refine vv_i2l (pc := 8) X dX0_border_8 ?_
    refine vv_lastore (pc := 9) X dX0_border_9 (fun h8 => ?_)
    refine vv_goto (pc := 10) (tgt := 21) X dX0_border_10 rfl ?_
    refine vv_iconst (pc := 21) X dX0_border_21 ?_
    exact vv_iretI X rfl rfl dX0_border_22
  · refine vvx_cls (fun _ c7 _ g9 => ?_)
    refine vvx_if (fun e9 => ?_) (fun _ => ?_)
    · subst e9
      refine vvx_catch X g9 rfl [] ⟨0, 10, 13, 18⟩ [⟨0, 10, 17, 13⟩] rfl (fun z hz => nomatch hz) rfl (by decide) q3041 q2274 ?_
      exact vv_sub [] (by rfl) (B_X0_border_13 X _ _)
    · refine vvx_if (fun e9 => ?_) (fun _ => ?_)
      · subst e9
        refine vvx_catch X g9 rfl [⟨0, 10, 13, 18⟩] ⟨0, 10, 17, 13⟩ [] rfl (fun z hz => by rcases List.mem_cons.mp hz with rfl | hz; exact Or.inr ⟨by decide, _, q3041, List.mem_of_getElem? (i := 0) rfl⟩; exact nomatch hz) rfl (by decide) q3013 q275 ?_
        exact vv_sub [] (by rfl) (B_X0_border_17 X _ _)
      · exact vvx_none
theorem m_X0_border {l : Launch} (hl : l.stackTraces = false) {G : va_G} (a1 : Option Nat) (a2 : Int) (a3 : Int) (a4 : Option Nat) (h : HP) : ∀ r hf, f_X0_border a1 a2 a3 a4 h = some (r, hf) → Ct l yX0_border (wsW_ yX0_border cX0_border 5 (some .int) [(0, 10, 13, 18), (0, 10, 17, 13)]) 9 276 G h [va_rf a1, .int (iI a2), .int (iI a3), va_rf a4] (jI r) hf :=
  zz_ofWH hl (by decide +kernel) (lv := [(0, LR a1), (1, LI a2), (2, LI a3), (3, LR a4)]) (by simp [lv_args, lvL, lvV, zz_rfc, zz_rfs, zz_ci, zz_cr, zz_cj, zz_cf, zz_cd]) (by simp [lg_sl, zz_rfc, zz_ci, zz_cr, zz_cj, zz_cf, zz_cd]) (fun _ X => A_X0_border X a1 a2 a3 a4 h)
-- X9_border RenamedWordsModel.border(II)I
noncomputable def b_X9_border_53 (s0 : Int) (h : HP) : Option ((Int) × HP) :=
  some (s0, h)
theorem B_X9_border_53 {M : hp_M} {G : va_G} {h0 : HP} (X : hp_X M G h0 "RenamedWordsModel" "border" cX9_border 3 (some .int) [] 6 185) (s0 : Int) (h : HP) : vv M G h0 3 (hp_End M G h0) jI h 53 [] [LI s0] (b_X9_border_53 s0 h) := by
  unfold b_X9_border_53
  exact vv_iretI X rfl rfl dX9_border_53
noncomputable def b_X9_border_40 (h : HP) : Option ((Int) × HP) :=
  b_X9_border_53 0 h
theorem B_X9_border_40 {M : hp_M} {G : va_G} {h0 : HP} (X : hp_X M G h0 "RenamedWordsModel" "border" cX9_border 3 (some .int) [] 6 185) (h : HP) : vv M G h0 3 (hp_End M G h0) jI h 40 [] [] (b_X9_border_40 h) := by
  unfold b_X9_border_40
  refine vv_iconst (pc := 40) X dX9_border_40 ?_
  refine vv_goto (pc := 41) (tgt := 53) X dX9_border_41 rfl ?_
  exact B_X9_border_53 X _ _
noncomputable def b_X9_border_33 (x0 : Option Nat) (x1 : Int) (x2 : Int) (s0 : Int) (s1 : Option Nat) (h : HP) : Option ((Int) × HP) :=
  (rcv h s1 [7]).bind fun b14 =>
  hb (f_X9_fails b14 s0 2 h) fun v12 h13 =>
  iEQ v12 0
    (hb (f_X9_patternFrom x1 h13) fun v16 h17 =>
    (rcv h17 x0 [7]).bind fun b20 =>
    hb (f_X9_borderOf b20 v16 x2 h17) fun v18 h19 =>
    b_X9_border_53 v18 h19)
    (b_X9_border_40 h13)
theorem B_X9_border_33 {M : hp_M} {G : va_G} {h0 : HP} (X : hp_X M G h0 "RenamedWordsModel" "border" cX9_border 3 (some .int) [] 6 185) (x0 : Option Nat) (x1 : Int) (x2 : Int) (s0 : Int) (s1 : Option Nat) (h : HP) : vv M G h0 3 (hp_End M G h0) jI h 33 [(0, LR x0), (1, LI x1), (2, LI x2)] [LI s0, LR s1] (b_X9_border_33 x0 x1 x2 s0 s1 h) := by
  unfold b_X9_border_33
  refine vv_iconst (pc := 33) X dX9_border_33 ?_
  refine vv_rcv (fun b14 t9 c9 fs9 e15 g9 k9 => ?_)
  cases List.mem_singleton.mp k9
  refine vv_callI (pc := 34) (rest := []) (by rw [e15]; rfl) (fun r8 k8 e8 => zz_callV X (m_X9_fails (hlM X) _ _ _ _ _ _ e8) g9 rfl rfl q3841 q3843 qs109 q164 q3844 nh_X9 rfl (by decide) (by decide) (Nat.le_of_ble_eq_true rfl) dX9_border_34) (fun v12 h13 => ?_)
  refine vv_if_eq (pc := 37) (tgt := 44) X dX9_border_37 rfl ?_ ?_
  · refine vv_aload_n (pc := 44) X (kf := 0) (i := 0) rfl 0 rfl dX9_border_44 ?_
    refine vv_iload_n (pc := 45) X (kf := 1) (i := 1) rfl 1 rfl dX9_border_45 ?_
    refine vv_callI (pc := 46) (rest := [LR x0]) (by rfl) (fun r8 k8 e8 => zz_callS X (m_X9_patternFrom (hlM X) _ _ _ _ e8) q3771 q3772 q164 q3773 nh_X9 rfl (by decide) (by decide) (Nat.le_of_ble_eq_true rfl) dX9_border_46) (fun v16 h17 => ?_)
    refine vv_iload_n (pc := 49) X (kf := 2) (i := 2) rfl 2 rfl dX9_border_49 ?_
    refine vv_rcv (fun b20 t9 c9 fs9 e21 g9 k9 => ?_)
    cases List.mem_singleton.mp k9
    refine vv_callI (pc := 50) (rest := []) (by rw [e21]; rfl) (fun r8 k8 e8 => zz_callV X (m_X9_borderOf (hlM X) _ _ _ _ _ _ e8) g9 rfl rfl q3880 q3882 qs114 q164 q3883 nh_X9 rfl (by decide) (by decide) (Nat.le_of_ble_eq_true rfl) dX9_border_50) (fun v18 h19 => ?_)
    exact vv_sub [] (by rfl) (B_X9_border_53 X _ _)
  · exact vv_sub [] (by rfl) (B_X9_border_40 X _)
noncomputable def f_X9_border (a0 : Nat) (a1 : Int) (a2 : Int) (h : HP) : Option ((Int) × HP) :=
  (wrI h (some a0) [7] 7 0).bind fun h1 =>
  (rcv h1 (some a0) [7]).bind fun b4 =>
  hb (f_X9_noPattern b4 a1 h1) fun v2 h3 =>
  iEQ v2 0
    ((rcv h3 (some a0) [7]).bind fun b8 =>
    hb (f_X9_of b8 a1 0 h3) fun v6 h7 =>
    hb (f_X9_in a2 1 v6 h7) fun v10 h11 =>
    iEQ v10 0
      (b_X9_border_33 (some a0) a1 a2 1 (some a0) h11)
      (b_X9_border_33 (some a0) a1 a2 0 (some a0) h11))
    (b_X9_border_40 h3)
theorem A_X9_border {M : hp_M} {G : va_G} {h0 : HP} (X : hp_X M G h0 "RenamedWordsModel" "border" cX9_border 3 (some .int) [] 6 185) (a0 : Nat) (a1 : Int) (a2 : Int) (h : HP) : vv M G h0 3 (hp_End M G h0) jI h 0 [(0, LR (some a0)), (1, LI a1), (2, LI a2)] [] (f_X9_border a0 a1 a2 h) := by
  unfold f_X9_border
  refine vv_aload_n (pc := 0) X (kf := 0) (i := 0) rfl 0 rfl dX9_border_0 ?_
  refine vv_iconst (pc := 1) X dX9_border_1 ?_
  refine vv_putI (pc := 2) (fin := false) X (fun _ z => by cases List.mem_singleton.mp z; exact fl_X9_69_7) (fun z => nomatch z) (fun z => nomatch z) dX9_border_2 (fun h1 => ?_)
  refine vv_aload_n (pc := 5) X (kf := 0) (i := 0) rfl 0 rfl dX9_border_5 ?_
  refine vv_iload_n (pc := 6) X (kf := 1) (i := 1) rfl 1 rfl dX9_border_6 ?_
  refine vv_rcv (fun b4 t9 c9 fs9 e5 g9 k9 => ?_)
  cases List.mem_singleton.mp k9
  refine vv_callI (pc := 7) (rest := []) (by rw [e5]; rfl) (fun r8 k8 e8 => zz_callV X (m_X9_noPattern (hlM X) _ _ _ _ _ e8) g9 rfl rfl q3876 q3878 qs113 q164 q3879 nh_X9 rfl (by decide) (by decide) (Nat.le_of_ble_eq_true rfl) dX9_border_7) (fun v2 h3 => ?_)
  refine vv_if_ne (pc := 10) (tgt := 40) X dX9_border_10 rfl ?_ ?_
  · exact vv_sub [] (by rfl) (B_X9_border_40 X _)
  · refine vv_aload_n (pc := 13) X (kf := 0) (i := 0) rfl 0 rfl dX9_border_13 ?_
    refine vv_iload_n (pc := 14) X (kf := 2) (i := 2) rfl 2 rfl dX9_border_14 ?_
    refine vv_iconst (pc := 15) X dX9_border_15 ?_
    refine vv_aload_n (pc := 16) X (kf := 0) (i := 0) rfl 0 rfl dX9_border_16 ?_
    refine vv_iload_n (pc := 17) X (kf := 1) (i := 1) rfl 1 rfl dX9_border_17 ?_
    refine vv_iconst (pc := 18) X dX9_border_18 ?_
    refine vv_rcv (fun b8 t9 c9 fs9 e9 g9 k9 => ?_)
    cases List.mem_singleton.mp k9
    refine vv_callI (pc := 19) (rest := [LI 1, LI a2, LR (some a0)]) (by rw [e9]; rfl) (fun r8 k8 e8 => zz_callV X (m_X9_of (hlM X) _ _ _ _ _ _ e8) g9 rfl rfl q3777 q3779 qs94 q164 q3780 nh_X9 rfl (by decide) (by decide) (Nat.le_of_ble_eq_true rfl) dX9_border_19) (fun v6 h7 => ?_)
    refine vv_callI (pc := 22) (rest := [LR (some a0)]) (by rfl) (fun r8 k8 e8 => zz_callS X (m_X9_in (hlM X) _ _ _ _ _ _ e8) q3593 q3594 q164 q3595 nh_X9 rfl (by decide) (by decide) (Nat.le_of_ble_eq_true rfl) dX9_border_22) (fun v10 h11 => ?_)
    refine vv_if_ne (pc := 25) (tgt := 32) X dX9_border_25 rfl ?_ ?_
    · refine vv_iconst (pc := 32) X dX9_border_32 ?_
      exact B_X9_border_33 X _ _ _ _ _ _
    · refine vv_iconst (pc := 28) X dX9_border_28 ?_
      refine vv_goto (pc := 29) (tgt := 33) X dX9_border_29 rfl ?_
      exact B_X9_border_33 X _ _ _ _ _ _
theorem m_X9_border {l : Launch} (hl : l.stackTraces = false) {G : va_G} (a0 : Nat) (a1 : Int) (a2 : Int) (h : HP) : ∀ r hf, f_X9_border a0 a1 a2 h = some (r, hf) → Ct l yX9_border (ws_ yX9_border cX9_border 3 (some .int)) 6 185 G h [.ref a0, .int (iI a1), .int (iI a2)] (jI r) hf :=
  zz_ofW hl (by decide +kernel) (lv := [(0, LR (some a0)), (1, LI a1), (2, LI a2)]) (by simp [lv_args, lvL, lvV, zz_rfc, zz_rfs, zz_ci, zz_cr, zz_cj, zz_cf, zz_cd]) (by simp [lg_sl, zz_rfc, zz_ci, zz_cr, zz_cj, zz_cf, zz_cd]) (fun _ X => A_X9_border X a0 a1 a2 h)
-- X6_at RenamedWords$Marks.at(I)LRenamedWords$Mark;
noncomputable def c_X6_at_7 (r7 : Int → Option Nat → HP → Option ((Option Nat) × HP)) (x2 : Int) (x3 : Option Nat) (h : HP) : Option ((Option Nat) × HP) :=
  (rcv h x3 [21]).bind fun b7 =>
  hb (f_X26_hasNext b7 h) fun v5 h6 =>
  iEQ v5 0
    (some (none, h6))
    ((rcv h6 x3 [21]).bind fun b11 =>
    hb (f_X26_next b11 h6) fun v9 h10 =>
    (chk h10 v9 [22]).bind fun _ =>
    iEQ x2 0
      (some (v9, h10))
      (r7 (x2 + (-1)) x3 h10))
noncomputable def b_X6_at_7 : Int → Option Nat → HP → Option ((Option Nat) × HP) := fx (fun _ _ _ => none) (c_X6_at_7) FU
theorem C_X6_at_7 {M : hp_M} {G : va_G} {h0 : HP} (X : hp_X M G h0 "RenamedWords$Marks" "at" cX6_at 5 (some (.object "RenamedWords$Mark")) [] 3 85) (r7 : Int → Option Nat → HP → Option ((Option Nat) × HP)) (hr7 : ∀ (y2 : Int) (y3 : Option Nat) (h : HP), vv M G h0 5 (hp_End M G h0) jR h 7 [(2, LI y2), (3, LR y3)] [] (r7 y2 y3 h)) (x2 : Int) (x3 : Option Nat) (h : HP) : vv M G h0 5 (hp_End M G h0) jR h 7 [(2, LI x2), (3, LR x3)] [] (c_X6_at_7 r7 x2 x3 h) := by
  unfold c_X6_at_7
  refine vv_aload_n (pc := 7) X (kf := 3) (i := 3) rfl 1 rfl dX6_at_7 ?_
  refine vv_rcv (fun b7 t9 c9 fs9 e8 g9 k9 => ?_)
  cases List.mem_singleton.mp k9
  refine vv_callI (pc := 8) (rest := []) (by rw [e8]; rfl) (fun r8 k8 e8 => zz_callF X (m_X26_hasNext (hlM X) _ _ _ _ e8) g9 rfl q3181 (List.mem_of_getElem? (i := 5) rfl) q2177 q2175 q191 q2179 nh_xjava_util_Iterator rfl (by decide) (by decide) (Nat.le_of_ble_eq_true rfl) dX6_at_8) (fun v5 h6 => ?_)
  refine vv_if_eq (pc := 13) (tgt := 40) X dX6_at_13 rfl ?_ ?_
  · refine vv_null (pc := 40) X dX6_at_40 ?_
    exact vv_aretO X rfl rfl dX6_at_41
  · refine vv_aload_n (pc := 16) X (kf := 3) (i := 3) rfl 1 rfl dX6_at_16 ?_
    refine vv_rcv (fun b11 t9 c9 fs9 e12 g9 k9 => ?_)
    cases List.mem_singleton.mp k9
    refine vv_callR (pc := 17) (rest := []) (by rw [e12]; rfl) (fun r8 k8 e8 => zz_callF X (m_X26_next (hlM X) _ _ _ _ e8) g9 rfl q3183 (List.mem_of_getElem? (i := 6) rfl) q2209 q2207 q191 q2211 nh_xjava_util_Iterator rfl (by decide) (by decide) (Nat.le_of_ble_eq_true rfl) dX6_at_17) (fun v9 h10 => ?_)
    refine vv_checkcast (pc := 22) X ⟨q3184, (fun _ z => by cases List.mem_singleton.mp z; exact ⟨_, rfl, Or.inl rfl⟩)⟩ dX6_at_22 ?_
    refine vv_astore (pc := 25) (lv' := [(4, LR v9), (2, LI x2), (3, LR x3)]) X (by decide) rfl dX6_at_25 ?_
    refine vv_iload_n (pc := 27) X (kf := 2) (i := 2) rfl 1 rfl dX6_at_27 ?_
    refine vv_if_ne (pc := 28) (tgt := 34) X dX6_at_28 rfl ?_ ?_
    · refine vv_iinc (pc := 34) (lv' := [(2, LI (x2 + (-1))), (4, LR v9), (3, LR x3)]) X 1 rfl (by decide) rfl dX6_at_34 ?_
      refine vv_goto (pc := 37) (tgt := 7) X dX6_at_37 rfl ?_
      exact vv_sub [0, 2] (by rfl) (hr7 _ _ _)
    · refine vv_aload (pc := 31) X 0 rfl dX6_at_31 ?_
      exact vv_aretO X rfl rfl dX6_at_33
theorem B_X6_at_7 {M : hp_M} {G : va_G} {h0 : HP} (X : hp_X M G h0 "RenamedWords$Marks" "at" cX6_at 5 (some (.object "RenamedWords$Mark")) [] 3 85) : ∀ (x2 : Int) (x3 : Option Nat) (h : HP), vv M G h0 5 (hp_End M G h0) jR h 7 [(2, LI x2), (3, LR x3)] [] (b_X6_at_7 x2 x3 h) := by
  unfold b_X6_at_7
  generalize FU = n
  induction n with
  | zero => intro x2 x3 h; exact vv_none
  | succ n ih => exact C_X6_at_7 X _ ih
noncomputable def f_X6_at (a0 : Nat) (a1 : Int) (h : HP) : Option ((Option Nat) × HP) :=
  (rcv h (some a0) [4]).bind fun b3 =>
  hb (f_X6_iterator b3 h) fun v1 h2 =>
  b_X6_at_7 a1 v1 h2
theorem A_X6_at {M : hp_M} {G : va_G} {h0 : HP} (X : hp_X M G h0 "RenamedWords$Marks" "at" cX6_at 5 (some (.object "RenamedWords$Mark")) [] 3 85) (a0 : Nat) (a1 : Int) (h : HP) : vv M G h0 5 (hp_End M G h0) jR h 0 [(0, LR (some a0)), (1, LI a1)] [] (f_X6_at a0 a1 h) := by
  unfold f_X6_at
  refine vv_iload_n (pc := 0) X (kf := 1) (i := 1) rfl 1 rfl dX6_at_0 ?_
  refine vv_istore_n (pc := 1) (lv' := [(2, LI a1), (0, LR (some a0)), (1, LI a1)]) X (kf := 2) (i := 2) rfl (by decide) rfl dX6_at_1 ?_
  refine vv_aload_n (pc := 2) X (kf := 0) (i := 0) rfl 1 rfl dX6_at_2 ?_
  refine vv_rcv (fun b3 t9 c9 fs9 e4 g9 k9 => ?_)
  cases List.mem_singleton.mp k9
  refine vv_callR (pc := 3) (rest := []) (by rw [e4]; rfl) (fun r8 k8 e8 => zz_callV X (m_X6_iterator (hlM X) _ _ _ _ e8) g9 rfl rfl q3179 q2148 q2149 q158 q2150 nh_X6 rfl (by decide) (by decide) (Nat.le_of_ble_eq_true rfl) dX6_at_3) (fun v1 h2 => ?_)
  refine vv_astore_n (pc := 6) (lv' := [(3, LR v1), (2, LI a1), (0, LR (some a0)), (1, LI a1)]) X (kf := 3) (i := 3) rfl (by decide) rfl dX6_at_6 ?_
  exact vv_sub [1, 0] (by rfl) (B_X6_at_7 X _ _ _)
theorem m_X6_at {l : Launch} (hl : l.stackTraces = false) {G : va_G} (a0 : Nat) (a1 : Int) (h : HP) : ∀ r hf, f_X6_at a0 a1 h = some (r, hf) → Ct l yX6_at (ws_ yX6_at cX6_at 5 (some (.object "RenamedWords$Mark"))) 3 85 G h [.ref a0, .int (iI a1)] (jR r) hf :=
  zz_ofW hl (by decide +kernel) (lv := [(0, LR (some a0)), (1, LI a1)]) (by simp [lv_args, lvL, lvV, zz_rfc, zz_rfs, zz_ci, zz_cr, zz_cj, zz_cf, zz_cd]) (by simp [lg_sl, zz_rfc, zz_ci, zz_cr, zz_cj, zz_cf, zz_cd]) (fun _ X => A_X6_at X a0 a1 h)
-- X1_markAt RenamedWords.markAt(I)I
noncomputable def f_X1_markAt (a0 : Nat) (a1 : Int) (h : HP) : Option ((Nat ⊕ Int) × HP) :=
  (rdR h (some a0) [0] 0).bind fun v1 =>
  (rdR h v1 [1] 3).bind fun v2 =>
  (rdI h v2 [4] 2).bind fun v3 =>
  hb (f_X1_in (iL a1) 0 (iL (v3 - 1)) h) fun v4 h5 =>
  hbx (f_X1_index v4 h5) (fun q8 h9 =>
      some (.inl q8, h9)) fun _ h7 =>
  (rdR h7 (some a0) [0] 0).bind fun v10 =>
  (rdR h7 v10 [1] 3).bind fun v11 =>
  (rcv h7 v11 [4]).bind fun b14 =>
  hb (f_X6_at b14 a1 h7) fun v12 h13 =>
  (rdI h13 v12 [22] 1).bind fun v16 =>
  (rdI h13 v12 [22] 0).bind fun v17 =>
  some (.inr ((10 * v16) + v17), h13)
theorem A_X1_markAt {M : hp_M} {G : va_G} {h0 : HP} (X : hp_X M G h0 "RenamedWords" "markAt" cX1_markAt 3 (some .int) [] 7 125) (a0 : Nat) (a1 : Int) (h : HP) : vv M G h0 3 (hp_End M G h0) xI h 0 [(0, LR (some a0)), (1, LI a1)] [] (f_X1_markAt a0 a1 h) := by
  unfold f_X1_markAt
  refine vv_iload_n (pc := 0) X (kf := 1) (i := 1) rfl 1 rfl dX1_markAt_0 ?_
  refine vv_i2l (pc := 1) X dX1_markAt_1 ?_
  refine vv_lconst (pc := 2) (v := 0) X (by decide) dX1_markAt_2 ?_
  refine vv_aload_n (pc := 3) X (kf := 0) (i := 0) rfl 0 rfl dX1_markAt_3 ?_
  refine vv_getR (pc := 4) X (fun _ z => by cases List.mem_singleton.mp z; exact fl_X1_35_0) dX1_markAt_4 (fun v1 => ?_)
  refine vv_getR (pc := 7) X (fun _ z => by cases List.mem_singleton.mp z; exact fl_X1_196_1) dX1_markAt_7 (fun v2 => ?_)
  refine vv_getI (pc := 10) X (fun _ z => by cases List.mem_singleton.mp z; exact fl_X1_200_4) dX1_markAt_10 (fun v3 => ?_)
  refine vv_iconst (pc := 13) X dX1_markAt_13 ?_
  refine vv_isub (pc := 14) X dX1_markAt_14 ?_
  refine vv_i2l (pc := 15) X dX1_markAt_15 ?_
  refine vv_callI (pc := 16) (rest := []) (by rfl) (fun r8 k8 e8 => zz_callS X (m_X1_in (hlM X) _ _ _ _ _ _ e8) q2984 q873 q132 q874 nh_X1 rfl (by decide) (by decide) (Nat.le_of_ble_eq_true rfl) dX1_markAt_16) (fun v4 h5 => ?_)
  refine vv_xallV (pc := 19) (rest := []) (by rfl) (fun r8 k8 e8 => zz_callS X (m_X1_index (hlM X) _ _ _ _ e8) q3066 q3067 q132 q3068 nh_X1 rfl (by decide) (by decide) (Nat.le_of_ble_eq_true rfl) dX1_markAt_19) (fun v6 h7 => ?_) (fun q8 h9 => ?_)
  · refine vv_aload_n (pc := 22) X (kf := 0) (i := 0) rfl 0 rfl dX1_markAt_22 ?_
    refine vv_getR (pc := 23) X (fun _ z => by cases List.mem_singleton.mp z; exact fl_X1_35_0) dX1_markAt_23 (fun v10 => ?_)
    refine vv_getR (pc := 26) X (fun _ z => by cases List.mem_singleton.mp z; exact fl_X1_196_1) dX1_markAt_26 (fun v11 => ?_)
    refine vv_iload_n (pc := 29) X (kf := 1) (i := 1) rfl 1 rfl dX1_markAt_29 ?_
    refine vv_rcv (fun b14 t9 c9 fs9 e15 g9 k9 => ?_)
    cases List.mem_singleton.mp k9
    refine vv_callR (pc := 30) (rest := []) (by rw [e15]; rfl) (fun r8 k8 e8 => zz_callV X (m_X6_at (hlM X) _ _ _ _ _ e8) g9 rfl rfl q3175 q3176 q3177 q158 q3178 nh_X6 rfl (by decide) (by decide) (Nat.le_of_ble_eq_true rfl) dX1_markAt_30) (fun v12 h13 => ?_)
    refine vv_astore_n (pc := 33) (lv' := [(2, LR v12), (0, LR (some a0)), (1, LI a1)]) X (kf := 2) (i := 2) rfl (by decide) rfl dX1_markAt_33 ?_
    refine vv_bipush (pc := 34) X (by decide) dX1_markAt_34 ?_
    refine vv_aload_n (pc := 36) X (kf := 2) (i := 2) rfl 0 rfl dX1_markAt_36 ?_
    refine vv_getI (pc := 37) X (fun _ z => by cases List.mem_singleton.mp z; exact fl_X1_301_22) dX1_markAt_37 (fun v16 => ?_)
    refine vv_imul (pc := 40) X dX1_markAt_40 ?_
    refine vv_aload_n (pc := 41) X (kf := 2) (i := 2) rfl 0 rfl dX1_markAt_41 ?_
    refine vv_getI (pc := 42) X (fun _ z => by cases List.mem_singleton.mp z; exact fl_X1_306_22) dX1_markAt_42 (fun v17 => ?_)
    refine vv_iadd (pc := 45) X dX1_markAt_45 ?_
    exact vv_iretI X rfl rfl dX1_markAt_46
  · exact vvx_out X (by decide) rfl
theorem m_X1_markAt {l : Launch} (hl : l.stackTraces = false) {G : va_G} (a0 : Nat) (a1 : Int) (h : HP) : ∀ r hf, f_X1_markAt a0 a1 h = some (r, hf) → Ct l yX1_markAt (ws_ yX1_markAt cX1_markAt 3 (some .int)) 7 125 G h [.ref a0, .int (iI a1)] (xI r) hf :=
  zz_ofW hl (by decide +kernel) (lv := [(0, LR (some a0)), (1, LI a1)]) (by simp [lv_args, lvL, lvV, zz_rfc, zz_rfs, zz_ci, zz_cr, zz_cj, zz_cf, zz_cd]) (by simp [lg_sl, zz_rfc, zz_ci, zz_cr, zz_cj, zz_cf, zz_cd]) (fun _ X => A_X1_markAt X a0 a1 h)
-- X0_markAt RenamedWordsLaw.markAt(LRenamedWords;I[J)I
noncomputable def b_X0_markAt_12 (s0 : Option Nat) (h : HP) : Option ((Int) × HP) :=
  some (1, h)
theorem B_X0_markAt_12 {M : hp_M} {G : va_G} {h0 : HP} (X : hp_X M G h0 "RenamedWordsLaw" "markAt" cX0_markAt 4 (some .int) (tableOf [(0, 9, 12, 18)]) 8 155) (s0 : Option Nat) (h : HP) : vv M G h0 4 (hp_End M G h0) jI h 12 [] [LR s0] (b_X0_markAt_12 s0 h) := by
  unfold b_X0_markAt_12
  refine vv_astore_n (pc := 12) (lv' := [(3, LR s0)]) X (kf := 3) (i := 3) rfl (by decide) rfl dX0_markAt_12 ?_
  refine vv_iconst (pc := 13) X dX0_markAt_13 ?_
  exact vv_iretI X rfl rfl dX0_markAt_14
noncomputable def f_X0_markAt (a1 : Option Nat) (a2 : Int) (a3 : Option Nat) (h : HP) : Option ((Int) × HP) :=
  (rcv h a1 [0]).bind fun b3 =>
  hbx (f_X1_markAt b3 a2 h) (fun q5 h6 =>
      (clsOf h6 q5).bind fun c7 =>
      if c7 = 35 then
        b_X0_markAt_12 (some q5) h6
      else
        none) fun v1 h2 =>
  (astJ h2 a3 0 (iL v1)).bind fun h8 =>
  some (0, h8)
theorem A_X0_markAt {M : hp_M} {G : va_G} {h0 : HP} (X : hp_X M G h0 "RenamedWordsLaw" "markAt" cX0_markAt 4 (some .int) (tableOf [(0, 9, 12, 18)]) 8 155) (a1 : Option Nat) (a2 : Int) (a3 : Option Nat) (h : HP) : vv M G h0 4 (hp_End M G h0) jI h 0 [(0, LR a1), (1, LI a2), (2, LR a3)] [] (f_X0_markAt a1 a2 a3 h) := by
  unfold f_X0_markAt
  refine vv_aload_n (pc := 0) X (kf := 2) (i := 2) rfl 2 rfl dX0_markAt_0 ?_
  refine vv_iconst (pc := 1) X dX0_markAt_1 ?_
  refine vv_aload_n (pc := 2) X (kf := 0) (i := 0) rfl 0 rfl dX0_markAt_2 ?_
  refine vv_iload_n (pc := 3) X (kf := 1) (i := 1) rfl 1 rfl dX0_markAt_3 ?_
  refine vv_rcv (fun b3 t9 c9 fs9 e4 g9 k9 => ?_)
  cases List.mem_singleton.mp k9
  refine vv_xallI (pc := 4) (rest := [LI 0, LR a3]) (by rw [e4]; rfl) (fun r8 k8 e8 => zz_callV X (m_X1_markAt (hlM X) _ _ _ _ _ e8) g9 rfl rfl q3171 q3172 q3173 q132 q3174 nh_X1 rfl (by decide) (by decide) (Nat.le_of_ble_eq_true rfl) dX0_markAt_4) (fun v1 h2 => ?_) (fun q5 h6 => ?_)
  · refine vv_i2l (pc := 7) X dX0_markAt_7 ?_
    refine vv_lastore (pc := 8) X dX0_markAt_8 (fun h8 => ?_)
    refine vv_goto (pc := 9) (tgt := 15) X dX0_markAt_9 rfl ?_
    refine vv_iconst (pc := 15) X dX0_markAt_15 ?_
    exact vv_iretI X rfl rfl dX0_markAt_16
  · refine vvx_cls (fun _ c7 _ g9 => ?_)
    refine vvx_if (fun e9 => ?_) (fun _ => ?_)
    · subst e9
      refine vvx_catch X g9 rfl [] ⟨0, 9, 12, 18⟩ [] rfl (fun z hz => nomatch hz) rfl (by decide) q3041 q2274 ?_
      exact vv_sub [] (by rfl) (B_X0_markAt_12 X _ _)
    · exact vvx_none
theorem m_X0_markAt {l : Launch} (hl : l.stackTraces = false) {G : va_G} (a1 : Option Nat) (a2 : Int) (a3 : Option Nat) (h : HP) : ∀ r hf, f_X0_markAt a1 a2 a3 h = some (r, hf) → Ct l yX0_markAt (wsW_ yX0_markAt cX0_markAt 4 (some .int) [(0, 9, 12, 18)]) 8 155 G h [va_rf a1, .int (iI a2), va_rf a3] (jI r) hf :=
  zz_ofWH hl (by decide +kernel) (lv := [(0, LR a1), (1, LI a2), (2, LR a3)]) (by simp [lv_args, lvL, lvV, zz_rfc, zz_rfs, zz_ci, zz_cr, zz_cj, zz_cf, zz_cd]) (by simp [lg_sl, zz_rfc, zz_ci, zz_cr, zz_cj, zz_cf, zz_cd]) (fun _ X => A_X0_markAt X a1 a2 a3 h)
