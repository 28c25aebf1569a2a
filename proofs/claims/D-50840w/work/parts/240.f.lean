/-! STAGE 1c: functions and contracts (printed by gen/mkfuncs.py). -/
set_option maxRecDepth 100000
set_option linter.unusedVariables false
-- X1_bestPut RenamedWords.bestPut(I)I
noncomputable def b_X1_bestPut_69 (r14 : Option Nat → Int → Int → Int → Int → HP → Option ((Nat ⊕ Int) × HP)) (x0 : Option Nat) (x1 : Int) (x3 : Int) (x4 : Int) (x5 : Int) (h : HP) : Option ((Nat ⊕ Int) × HP) :=
  r14 x0 x1 x3 x4 (x5 + 1) h
theorem B_X1_bestPut_69 {M : hp_M} {G : va_G} {h0 : HP} (X : hp_X M G h0 "RenamedWords" "bestPut" cX1_bestPut 7 (some .int) [] 10 309) (r14 : Option Nat → Int → Int → Int → Int → HP → Option ((Nat ⊕ Int) × HP)) (hr14 : ∀ (y0 : Option Nat) (y1 : Int) (y3 : Int) (y4 : Int) (y5 : Int) (h : HP), vv M G h0 7 (hp_End M G h0) xI h 14 [(0, LR y0), (1, LI y1), (3, LI y3), (4, LI y4), (5, LI y5)] [] (r14 y0 y1 y3 y4 y5 h)) (x0 : Option Nat) (x1 : Int) (x3 : Int) (x4 : Int) (x5 : Int) (h : HP) : vv M G h0 7 (hp_End M G h0) xI h 69 [(0, LR x0), (1, LI x1), (3, LI x3), (4, LI x4), (5, LI x5)] [] (b_X1_bestPut_69 r14 x0 x1 x3 x4 x5 h) := by
  unfold b_X1_bestPut_69
  refine vv_iinc (pc := 69) (lv' := [(5, LI (x5 + 1)), (0, LR x0), (1, LI x1), (3, LI x3), (4, LI x4)]) X 4 rfl (by decide) rfl dX1_bestPut_69 ?_
  refine vv_goto (pc := 72) (tgt := 14) X dX1_bestPut_72 rfl ?_
  exact vv_sub [1, 2, 3, 4, 0] (by rfl) (hr14 _ _ _ _ _ _)
noncomputable def c_X1_bestPut_14 (r14 : Option Nat → Int → Int → Int → Int → HP → Option ((Nat ⊕ Int) × HP)) (x0 : Option Nat) (x1 : Int) (x3 : Int) (x4 : Int) (x5 : Int) (h : HP) : Option ((Nat ⊕ Int) × HP) :=
  (rdR h x0 [0] 0).bind fun v7 =>
  (rdR h v7 [1] 0).bind fun v8 =>
  (rdI h v8 [3] 3).bind fun v9 =>
  iLE (26 * v9) x5
    (some (.inr x3, h))
    ((rdR h x0 [0] 0).bind fun v10 =>
    (iDV x5 26).bind fun v11 =>
    (iRM x5 26).bind fun v12 =>
    (rcv h v10 [1]).bind fun b15 =>
    hb (f_X2_hitsIf b15 x1 v11 v12 h) fun v13 h14 =>
    iLT x4 v13
      (b_X1_bestPut_69 r14 x0 x1 x5 v13 x5 h14)
      (b_X1_bestPut_69 r14 x0 x1 x3 x4 x5 h14))
noncomputable def b_X1_bestPut_14 : Option Nat → Int → Int → Int → Int → HP → Option ((Nat ⊕ Int) × HP) := fx (fun _ _ _ _ _ _ => none) (c_X1_bestPut_14) FU
theorem C_X1_bestPut_14 {M : hp_M} {G : va_G} {h0 : HP} (X : hp_X M G h0 "RenamedWords" "bestPut" cX1_bestPut 7 (some .int) [] 10 309) (r14 : Option Nat → Int → Int → Int → Int → HP → Option ((Nat ⊕ Int) × HP)) (hr14 : ∀ (y0 : Option Nat) (y1 : Int) (y3 : Int) (y4 : Int) (y5 : Int) (h : HP), vv M G h0 7 (hp_End M G h0) xI h 14 [(0, LR y0), (1, LI y1), (3, LI y3), (4, LI y4), (5, LI y5)] [] (r14 y0 y1 y3 y4 y5 h)) (x0 : Option Nat) (x1 : Int) (x3 : Int) (x4 : Int) (x5 : Int) (h : HP) : vv M G h0 7 (hp_End M G h0) xI h 14 [(0, LR x0), (1, LI x1), (3, LI x3), (4, LI x4), (5, LI x5)] [] (c_X1_bestPut_14 r14 x0 x1 x3 x4 x5 h) := by
  unfold c_X1_bestPut_14
  refine vv_iload (pc := 14) X 4 rfl dX1_bestPut_14 ?_
  refine vv_bipush (pc := 16) X (by decide) dX1_bestPut_16 ?_
  refine vv_aload_n (pc := 18) X (kf := 0) (i := 0) rfl 0 rfl dX1_bestPut_18 ?_
  refine vv_getR (pc := 19) X (fun _ z => by cases List.mem_singleton.mp z; exact fl_X1_35_0) dX1_bestPut_19 (fun v7 => ?_)
  refine vv_getR (pc := 22) X (fun _ z => by cases List.mem_singleton.mp z; exact fl_X1_79_1) dX1_bestPut_22 (fun v8 => ?_)
  refine vv_getI (pc := 25) X (fun _ z => by cases List.mem_singleton.mp z; exact fl_X1_83_3) dX1_bestPut_25 (fun v9 => ?_)
  refine vv_imul (pc := 28) X dX1_bestPut_28 ?_
  refine vv_icmp_ge (pc := 29) (tgt := 75) X dX1_bestPut_29 rfl ?_ ?_
  · refine vv_iload_n (pc := 75) X (kf := 3) (i := 3) rfl 2 rfl dX1_bestPut_75 ?_
    exact vv_iretI X rfl rfl dX1_bestPut_76
  · refine vv_aload_n (pc := 32) X (kf := 0) (i := 0) rfl 0 rfl dX1_bestPut_32 ?_
    refine vv_getR (pc := 33) X (fun _ z => by cases List.mem_singleton.mp z; exact fl_X1_35_0) dX1_bestPut_33 (fun v10 => ?_)
    refine vv_iload_n (pc := 36) X (kf := 1) (i := 1) rfl 1 rfl dX1_bestPut_36 ?_
    refine vv_iload (pc := 37) X 4 rfl dX1_bestPut_37 ?_
    refine vv_bipush (pc := 39) X (by decide) dX1_bestPut_39 ?_
    refine vv_idiv (pc := 41) X dX1_bestPut_41 (fun v11 => ?_)
    refine vv_iload (pc := 42) X 4 rfl dX1_bestPut_42 ?_
    refine vv_bipush (pc := 44) X (by decide) dX1_bestPut_44 ?_
    refine vv_irem (pc := 46) X dX1_bestPut_46 (fun v12 => ?_)
    refine vv_rcv (fun b15 t9 c9 fs9 e16 g9 k9 => ?_)
    cases List.mem_singleton.mp k9
    refine vv_callI (pc := 47) (rest := []) (by rw [e16]; rfl) (fun r8 k8 e8 => zz_callV X (m_X2_hitsIf (hlM X) _ _ _ _ _ _ _ e8) g9 rfl rfl q3310 q3311 q3312 q133 q3313 nh_X2 rfl (by decide) (by decide) (Nat.le_of_ble_eq_true rfl) dX1_bestPut_47) (fun v13 h14 => ?_)
    refine vv_istore (pc := 50) (lv' := [(6, LI v13), (0, LR x0), (1, LI x1), (3, LI x3), (4, LI x4), (5, LI x5)]) X (by decide) rfl dX1_bestPut_50 ?_
    refine vv_iload (pc := 52) X 0 rfl dX1_bestPut_52 ?_
    refine vv_iload (pc := 54) X 4 rfl dX1_bestPut_54 ?_
    refine vv_icmp_gt (pc := 56) (tgt := 62) X dX1_bestPut_56 rfl ?_ ?_
    · refine vv_iload (pc := 62) X 5 rfl dX1_bestPut_62 ?_
      refine vv_istore_n (pc := 64) (lv' := [(3, LI x5), (6, LI v13), (0, LR x0), (1, LI x1), (4, LI x4), (5, LI x5)]) X (kf := 3) (i := 3) rfl (by decide) rfl dX1_bestPut_64 ?_
      refine vv_iload (pc := 65) X 1 rfl dX1_bestPut_65 ?_
      refine vv_istore (pc := 67) (lv' := [(4, LI v13), (3, LI x5), (6, LI v13), (0, LR x0), (1, LI x1), (5, LI x5)]) X (by decide) rfl dX1_bestPut_67 ?_
      exact vv_sub [3, 4, 1, 0, 5] (by rfl) (B_X1_bestPut_69 X r14 hr14 _ _ _ _ _ _)
    · refine vv_goto (pc := 59) (tgt := 69) X dX1_bestPut_59 rfl ?_
      exact vv_sub [1, 2, 3, 4, 5] (by rfl) (B_X1_bestPut_69 X r14 hr14 _ _ _ _ _ _)
theorem B_X1_bestPut_14 {M : hp_M} {G : va_G} {h0 : HP} (X : hp_X M G h0 "RenamedWords" "bestPut" cX1_bestPut 7 (some .int) [] 10 309) : ∀ (x0 : Option Nat) (x1 : Int) (x3 : Int) (x4 : Int) (x5 : Int) (h : HP), vv M G h0 7 (hp_End M G h0) xI h 14 [(0, LR x0), (1, LI x1), (3, LI x3), (4, LI x4), (5, LI x5)] [] (b_X1_bestPut_14 x0 x1 x3 x4 x5 h) := by
  unfold b_X1_bestPut_14
  generalize FU = n
  induction n with
  | zero => intro x0 x1 x3 x4 x5 h; exact vv_none
  | succ n ih => exact C_X1_bestPut_14 X _ ih
noncomputable def f_X1_bestPut (a0 : Nat) (a1 : Int) (h : HP) : Option ((Nat ⊕ Int) × HP) :=
  (rcv h (some a0) [0]).bind fun b3 =>
  hbx (f_X1_patternAt b3 a1 h) (fun q5 h6 =>
      some (.inl q5, h6)) fun v1 h2 =>
  b_X1_bestPut_14 (some a0) a1 0 (-1) 0 h2
theorem A_X1_bestPut {M : hp_M} {G : va_G} {h0 : HP} (X : hp_X M G h0 "RenamedWords" "bestPut" cX1_bestPut 7 (some .int) [] 10 309) (a0 : Nat) (a1 : Int) (h : HP) : vv M G h0 7 (hp_End M G h0) xI h 0 [(0, LR (some a0)), (1, LI a1)] [] (f_X1_bestPut a0 a1 h) := by
  unfold f_X1_bestPut
  refine vv_aload_n (pc := 0) X (kf := 0) (i := 0) rfl 0 rfl dX1_bestPut_0 ?_
  refine vv_iload_n (pc := 1) X (kf := 1) (i := 1) rfl 1 rfl dX1_bestPut_1 ?_
  refine vv_rcv (fun b3 t9 c9 fs9 e4 g9 k9 => ?_)
  cases List.mem_singleton.mp k9
  refine vv_xallR (pc := 2) (rest := []) (by rw [e4]; rfl) (fun r8 k8 e8 => zz_callV X (m_X1_patternAt (hlM X) _ _ _ _ _ e8) g9 rfl rfl q3102 q3104 qs47 q132 q3105 nh_X1 rfl (by decide) (by decide) (Nat.le_of_ble_eq_true rfl) dX1_bestPut_2) (fun v1 h2 => ?_) (fun q5 h6 => ?_)
  · refine vv_astore_n (pc := 5) (lv' := [(2, LR v1), (0, LR (some a0)), (1, LI a1)]) X (kf := 2) (i := 2) rfl (by decide) rfl dX1_bestPut_5 ?_
    refine vv_iconst (pc := 6) X dX1_bestPut_6 ?_
    refine vv_istore_n (pc := 7) (lv' := [(3, LI 0), (2, LR v1), (0, LR (some a0)), (1, LI a1)]) X (kf := 3) (i := 3) rfl (by decide) rfl dX1_bestPut_7 ?_
    refine vv_iconst (pc := 8) X dX1_bestPut_8 ?_
    refine vv_istore (pc := 9) (lv' := [(4, LI (-1)), (3, LI 0), (2, LR v1), (0, LR (some a0)), (1, LI a1)]) X (by decide) rfl dX1_bestPut_9 ?_
    refine vv_iconst (pc := 11) X dX1_bestPut_11 ?_
    refine vv_istore (pc := 12) (lv' := [(5, LI 0), (4, LI (-1)), (3, LI 0), (2, LR v1), (0, LR (some a0)), (1, LI a1)]) X (by decide) rfl dX1_bestPut_12 ?_
    exact vv_sub [4, 5, 2, 1, 0] (by rfl) (B_X1_bestPut_14 X _ _ _ _ _ _)
  · exact vvx_out X (by decide) rfl
theorem m_X1_bestPut {l : Launch} (hl : l.stackTraces = false) {G : va_G} (a0 : Nat) (a1 : Int) (h : HP) : ∀ r hf, f_X1_bestPut a0 a1 h = some (r, hf) → Ct l yX1_bestPut (ws_ yX1_bestPut cX1_bestPut 7 (some .int)) 10 309 G h [.ref a0, .int (iI a1)] (xI r) hf :=
  zz_ofW hl (by decide +kernel) (lv := [(0, LR (some a0)), (1, LI a1)]) (by simp [lv_args, lvL, lvV, zz_rfc, zz_rfs, zz_ci, zz_cr, zz_cj, zz_cf, zz_cd]) (by simp [lg_sl, zz_rfc, zz_ci, zz_cr, zz_cj, zz_cf, zz_cd]) (fun _ X => A_X1_bestPut X a0 a1 h)
-- X0_bestPut RenamedWordsLaw.bestPut(LRenamedWords;I[J)I
noncomputable def b_X0_bestPut_12 (s0 : Option Nat) (h : HP) : Option ((Int) × HP) :=
  some (1, h)
theorem B_X0_bestPut_12 {M : hp_M} {G : va_G} {h0 : HP} (X : hp_X M G h0 "RenamedWordsLaw" "bestPut" cX0_bestPut 4 (some .int) (tableOf [(0, 9, 12, 18)]) 11 343) (s0 : Option Nat) (h : HP) : vv M G h0 4 (hp_End M G h0) jI h 12 [] [LR s0] (b_X0_bestPut_12 s0 h) := by
  unfold b_X0_bestPut_12
  refine vv_astore_n (pc := 12) (lv' := [(3, LR s0)]) X (kf := 3) (i := 3) rfl (by decide) rfl dX0_bestPut_12 ?_
  refine vv_iconst (pc := 13) X dX0_bestPut_13 ?_
  exact vv_iretI X rfl rfl dX0_bestPut_14
noncomputable def f_X0_bestPut (a1 : Option Nat) (a2 : Int) (a3 : Option Nat) (h : HP) : Option ((Int) × HP) :=
  (rcv h a1 [0]).bind fun b3 =>
  hbx (f_X1_bestPut b3 a2 h) (fun q5 h6 =>
      (clsOf h6 q5).bind fun c7 =>
      if c7 = 35 then
        b_X0_bestPut_12 (some q5) h6
      else
        none) fun v1 h2 =>
  (astJ h2 a3 0 (iL v1)).bind fun h8 =>
  some (0, h8)
theorem A_X0_bestPut {M : hp_M} {G : va_G} {h0 : HP} (X : hp_X M G h0 "RenamedWordsLaw" "bestPut" cX0_bestPut 4 (some .int) (tableOf [(0, 9, 12, 18)]) 11 343) (a1 : Option Nat) (a2 : Int) (a3 : Option Nat) (h : HP) : vv M G h0 4 (hp_End M G h0) jI h 0 [(0, LR a1), (1, LI a2), (2, LR a3)] [] (f_X0_bestPut a1 a2 a3 h) := by
  unfold f_X0_bestPut
  refine vv_aload_n (pc := 0) X (kf := 2) (i := 2) rfl 2 rfl dX0_bestPut_0 ?_
  refine vv_iconst (pc := 1) X dX0_bestPut_1 ?_
  refine vv_aload_n (pc := 2) X (kf := 0) (i := 0) rfl 0 rfl dX0_bestPut_2 ?_
  refine vv_iload_n (pc := 3) X (kf := 1) (i := 1) rfl 1 rfl dX0_bestPut_3 ?_
  refine vv_rcv (fun b3 t9 c9 fs9 e4 g9 k9 => ?_)
  cases List.mem_singleton.mp k9
  refine vv_xallI (pc := 4) (rest := [LI 0, LR a3]) (by rw [e4]; rfl) (fun r8 k8 e8 => zz_callV X (m_X1_bestPut (hlM X) _ _ _ _ _ e8) g9 rfl rfl q3317 q3318 q3319 q132 q3320 nh_X1 rfl (by decide) (by decide) (Nat.le_of_ble_eq_true rfl) dX0_bestPut_4) (fun v1 h2 => ?_) (fun q5 h6 => ?_)
  · refine vv_i2l (pc := 7) X dX0_bestPut_7 ?_
    refine vv_lastore (pc := 8) X dX0_bestPut_8 (fun h8 => ?_)
    refine vv_goto (pc := 9) (tgt := 15) X dX0_bestPut_9 rfl ?_
    refine vv_iconst (pc := 15) X dX0_bestPut_15 ?_
    exact vv_iretI X rfl rfl dX0_bestPut_16
  · refine vvx_cls (fun _ c7 _ g9 => ?_)
    refine vvx_if (fun e9 => ?_) (fun _ => ?_)
    · subst e9
      refine vvx_catch X g9 rfl [] ⟨0, 9, 12, 18⟩ [] rfl (fun z hz => nomatch hz) rfl (by decide) q3041 q2274 ?_
      exact vv_sub [] (by rfl) (B_X0_bestPut_12 X _ _)
    · exact vvx_none
theorem m_X0_bestPut {l : Launch} (hl : l.stackTraces = false) {G : va_G} (a1 : Option Nat) (a2 : Int) (a3 : Option Nat) (h : HP) : ∀ r hf, f_X0_bestPut a1 a2 a3 h = some (r, hf) → Ct l yX0_bestPut (wsW_ yX0_bestPut cX0_bestPut 4 (some .int) [(0, 9, 12, 18)]) 11 343 G h [va_rf a1, .int (iI a2), va_rf a3] (jI r) hf :=
  zz_ofWH hl (by decide +kernel) (lv := [(0, LR a1), (1, LI a2), (2, LR a3)]) (by simp [lv_args, lvL, lvV, zz_rfc, zz_rfs, zz_ci, zz_cr, zz_cj, zz_cf, zz_cd]) (by simp [lg_sl, zz_rfc, zz_ci, zz_cr, zz_cj, zz_cf, zz_cd]) (fun _ X => A_X0_bestPut X a1 a2 a3 h)
-- X9_bestPut RenamedWordsModel.bestPut(I)I
noncomputable def b_X9_bestPut_68 (r22 : Option Nat → Int → Int → Int → Int → HP → Option ((Int) × HP)) (x0 : Option Nat) (x1 : Int) (x2 : Int) (x3 : Int) (x4 : Int) (h : HP) : Option ((Int) × HP) :=
  r22 x0 x1 x2 x3 (x4 + 1) h
theorem B_X9_bestPut_68 {M : hp_M} {G : va_G} {h0 : HP} (X : hp_X M G h0 "RenamedWordsModel" "bestPut" cX9_bestPut 6 (some .int) [] 8 247) (r22 : Option Nat → Int → Int → Int → Int → HP → Option ((Int) × HP)) (hr22 : ∀ (y0 : Option Nat) (y1 : Int) (y2 : Int) (y3 : Int) (y4 : Int) (h : HP), vv M G h0 6 (hp_End M G h0) jI h 22 [(0, LR y0), (1, LI y1), (2, LI y2), (3, LI y3), (4, LI y4)] [] (r22 y0 y1 y2 y3 y4 h)) (x0 : Option Nat) (x1 : Int) (x2 : Int) (x3 : Int) (x4 : Int) (h : HP) : vv M G h0 6 (hp_End M G h0) jI h 68 [(0, LR x0), (1, LI x1), (2, LI x2), (3, LI x3), (4, LI x4)] [] (b_X9_bestPut_68 r22 x0 x1 x2 x3 x4 h) := by
  unfold b_X9_bestPut_68
  refine vv_iinc (pc := 68) (lv' := [(4, LI (x4 + 1)), (0, LR x0), (1, LI x1), (2, LI x2), (3, LI x3)]) X 4 rfl (by decide) rfl dX9_bestPut_68 ?_
  refine vv_goto (pc := 71) (tgt := 22) X dX9_bestPut_71 rfl ?_
  exact vv_sub [1, 2, 3, 4, 0] (by rfl) (hr22 _ _ _ _ _ _)
noncomputable def c_X9_bestPut_22 (r22 : Option Nat → Int → Int → Int → Int → HP → Option ((Int) × HP)) (x0 : Option Nat) (x1 : Int) (x2 : Int) (x3 : Int) (x4 : Int) (h : HP) : Option ((Int) × HP) :=
  (rdR h x0 [7] 0).bind fun v6 =>
  (aldI h .int v6 1).bind fun v7 =>
  iLE (26 * v7) x4
    (some (x2, h))
    ((iDV x4 26).bind fun v8 =>
    (iRM x4 26).bind fun v9 =>
    (rcv h x0 [7]).bind fun b12 =>
    hb (f_X9_hitsWith b12 x1 v8 v9 h) fun v10 h11 =>
    iLT x3 v10
      (b_X9_bestPut_68 r22 x0 x1 x4 v10 x4 h11)
      (b_X9_bestPut_68 r22 x0 x1 x2 x3 x4 h11))
noncomputable def b_X9_bestPut_22 : Option Nat → Int → Int → Int → Int → HP → Option ((Int) × HP) := fx (fun _ _ _ _ _ _ => none) (c_X9_bestPut_22) FU
theorem C_X9_bestPut_22 {M : hp_M} {G : va_G} {h0 : HP} (X : hp_X M G h0 "RenamedWordsModel" "bestPut" cX9_bestPut 6 (some .int) [] 8 247) (r22 : Option Nat → Int → Int → Int → Int → HP → Option ((Int) × HP)) (hr22 : ∀ (y0 : Option Nat) (y1 : Int) (y2 : Int) (y3 : Int) (y4 : Int) (h : HP), vv M G h0 6 (hp_End M G h0) jI h 22 [(0, LR y0), (1, LI y1), (2, LI y2), (3, LI y3), (4, LI y4)] [] (r22 y0 y1 y2 y3 y4 h)) (x0 : Option Nat) (x1 : Int) (x2 : Int) (x3 : Int) (x4 : Int) (h : HP) : vv M G h0 6 (hp_End M G h0) jI h 22 [(0, LR x0), (1, LI x1), (2, LI x2), (3, LI x3), (4, LI x4)] [] (c_X9_bestPut_22 r22 x0 x1 x2 x3 x4 h) := by
  unfold c_X9_bestPut_22
  refine vv_iload (pc := 22) X 4 rfl dX9_bestPut_22 ?_
  refine vv_bipush (pc := 24) X (by decide) dX9_bestPut_24 ?_
  refine vv_aload_n (pc := 26) X (kf := 0) (i := 0) rfl 0 rfl dX9_bestPut_26 ?_
  refine vv_getR (pc := 27) X (fun _ z => by cases List.mem_singleton.mp z; exact fl_X9_9_7) dX9_bestPut_27 (fun v6 => ?_)
  refine vv_iconst (pc := 30) X dX9_bestPut_30 ?_
  refine vv_iaload (pc := 31) X dX9_bestPut_31 (fun v7 => ?_)
  refine vv_imul (pc := 32) X dX9_bestPut_32 ?_
  refine vv_icmp_ge (pc := 33) (tgt := 74) X dX9_bestPut_33 rfl ?_ ?_
  · refine vv_iload_n (pc := 74) X (kf := 2) (i := 2) rfl 2 rfl dX9_bestPut_74 ?_
    exact vv_iretI X rfl rfl dX9_bestPut_75
  · refine vv_aload_n (pc := 36) X (kf := 0) (i := 0) rfl 0 rfl dX9_bestPut_36 ?_
    refine vv_iload_n (pc := 37) X (kf := 1) (i := 1) rfl 1 rfl dX9_bestPut_37 ?_
    refine vv_iload (pc := 38) X 4 rfl dX9_bestPut_38 ?_
    refine vv_bipush (pc := 40) X (by decide) dX9_bestPut_40 ?_
    refine vv_idiv (pc := 42) X dX9_bestPut_42 (fun v8 => ?_)
    refine vv_iload (pc := 43) X 4 rfl dX9_bestPut_43 ?_
    refine vv_bipush (pc := 45) X (by decide) dX9_bestPut_45 ?_
    refine vv_irem (pc := 47) X dX9_bestPut_47 (fun v9 => ?_)
    refine vv_rcv (fun b12 t9 c9 fs9 e13 g9 k9 => ?_)
    cases List.mem_singleton.mp k9
    refine vv_callI (pc := 48) (rest := []) (by rw [e13]; rfl) (fun r8 k8 e8 => zz_callV X (m_X9_hitsWith (hlM X) _ _ _ _ _ _ _ e8) g9 rfl rfl q3995 q3997 qs124 q164 q3998 nh_X9 rfl (by decide) (by decide) (Nat.le_of_ble_eq_true rfl) dX9_bestPut_48) (fun v10 h11 => ?_)
    refine vv_istore (pc := 51) (lv' := [(5, LI v10), (0, LR x0), (1, LI x1), (2, LI x2), (3, LI x3), (4, LI x4)]) X (by decide) rfl dX9_bestPut_51 ?_
    refine vv_iload (pc := 53) X 0 rfl dX9_bestPut_53 ?_
    refine vv_iload_n (pc := 55) X (kf := 3) (i := 3) rfl 4 rfl dX9_bestPut_55 ?_
    refine vv_icmp_gt (pc := 56) (tgt := 62) X dX9_bestPut_56 rfl ?_ ?_
    · refine vv_iload (pc := 62) X 5 rfl dX9_bestPut_62 ?_
      refine vv_istore_n (pc := 64) (lv' := [(2, LI x4), (5, LI v10), (0, LR x0), (1, LI x1), (3, LI x3), (4, LI x4)]) X (kf := 2) (i := 2) rfl (by decide) rfl dX9_bestPut_64 ?_
      refine vv_iload (pc := 65) X 1 rfl dX9_bestPut_65 ?_
      refine vv_istore_n (pc := 67) (lv' := [(3, LI v10), (2, LI x4), (5, LI v10), (0, LR x0), (1, LI x1), (4, LI x4)]) X (kf := 3) (i := 3) rfl (by decide) rfl dX9_bestPut_67 ?_
      exact vv_sub [3, 4, 1, 0, 5] (by rfl) (B_X9_bestPut_68 X r22 hr22 _ _ _ _ _ _)
    · refine vv_goto (pc := 59) (tgt := 68) X dX9_bestPut_59 rfl ?_
      exact vv_sub [1, 2, 3, 4, 5] (by rfl) (B_X9_bestPut_68 X r22 hr22 _ _ _ _ _ _)
theorem B_X9_bestPut_22 {M : hp_M} {G : va_G} {h0 : HP} (X : hp_X M G h0 "RenamedWordsModel" "bestPut" cX9_bestPut 6 (some .int) [] 8 247) : ∀ (x0 : Option Nat) (x1 : Int) (x2 : Int) (x3 : Int) (x4 : Int) (h : HP), vv M G h0 6 (hp_End M G h0) jI h 22 [(0, LR x0), (1, LI x1), (2, LI x2), (3, LI x3), (4, LI x4)] [] (b_X9_bestPut_22 x0 x1 x2 x3 x4 h) := by
  unfold b_X9_bestPut_22
  generalize FU = n
  induction n with
  | zero => intro x0 x1 x2 x3 x4 h; exact vv_none
  | succ n ih => exact C_X9_bestPut_22 X _ ih
noncomputable def f_X9_bestPut (a0 : Nat) (a1 : Int) (h : HP) : Option ((Int) × HP) :=
  (wrI h (some a0) [7] 7 0).bind fun h1 =>
  (rcv h1 (some a0) [7]).bind fun b4 =>
  hb (f_X9_noPattern b4 a1 h1) fun v2 h3 =>
  iEQ v2 0
    (b_X9_bestPut_22 (some a0) a1 0 (-1) 0 h3)
    (some (0, h3))
theorem A_X9_bestPut {M : hp_M} {G : va_G} {h0 : HP} (X : hp_X M G h0 "RenamedWordsModel" "bestPut" cX9_bestPut 6 (some .int) [] 8 247) (a0 : Nat) (a1 : Int) (h : HP) : vv M G h0 6 (hp_End M G h0) jI h 0 [(0, LR (some a0)), (1, LI a1)] [] (f_X9_bestPut a0 a1 h) := by
  unfold f_X9_bestPut
  refine vv_aload_n (pc := 0) X (kf := 0) (i := 0) rfl 0 rfl dX9_bestPut_0 ?_
  refine vv_iconst (pc := 1) X dX9_bestPut_1 ?_
  refine vv_putI (pc := 2) (fin := false) X (fun _ z => by cases List.mem_singleton.mp z; exact fl_X9_69_7) (fun z => nomatch z) (fun z => nomatch z) dX9_bestPut_2 (fun h1 => ?_)
  refine vv_aload_n (pc := 5) X (kf := 0) (i := 0) rfl 0 rfl dX9_bestPut_5 ?_
  refine vv_iload_n (pc := 6) X (kf := 1) (i := 1) rfl 1 rfl dX9_bestPut_6 ?_
  refine vv_rcv (fun b4 t9 c9 fs9 e5 g9 k9 => ?_)
  cases List.mem_singleton.mp k9
  refine vv_callI (pc := 7) (rest := []) (by rw [e5]; rfl) (fun r8 k8 e8 => zz_callV X (m_X9_noPattern (hlM X) _ _ _ _ _ e8) g9 rfl rfl q3876 q3878 qs113 q164 q3879 nh_X9 rfl (by decide) (by decide) (Nat.le_of_ble_eq_true rfl) dX9_bestPut_7) (fun v2 h3 => ?_)
  refine vv_if_eq (pc := 10) (tgt := 15) X dX9_bestPut_10 rfl ?_ ?_
  · refine vv_iconst (pc := 15) X dX9_bestPut_15 ?_
    refine vv_istore_n (pc := 16) (lv' := [(2, LI 0), (0, LR (some a0)), (1, LI a1)]) X (kf := 2) (i := 2) rfl (by decide) rfl dX9_bestPut_16 ?_
    refine vv_iconst (pc := 17) X dX9_bestPut_17 ?_
    refine vv_istore_n (pc := 18) (lv' := [(3, LI (-1)), (2, LI 0), (0, LR (some a0)), (1, LI a1)]) X (kf := 3) (i := 3) rfl (by decide) rfl dX9_bestPut_18 ?_
    refine vv_iconst (pc := 19) X dX9_bestPut_19 ?_
    refine vv_istore (pc := 20) (lv' := [(4, LI 0), (3, LI (-1)), (2, LI 0), (0, LR (some a0)), (1, LI a1)]) X (by decide) rfl dX9_bestPut_20 ?_
    exact vv_sub [3, 4, 2, 1, 0] (by rfl) (B_X9_bestPut_22 X _ _ _ _ _ _)
  · refine vv_iconst (pc := 13) X dX9_bestPut_13 ?_
    exact vv_iretI X rfl rfl dX9_bestPut_14
theorem m_X9_bestPut {l : Launch} (hl : l.stackTraces = false) {G : va_G} (a0 : Nat) (a1 : Int) (h : HP) : ∀ r hf, f_X9_bestPut a0 a1 h = some (r, hf) → Ct l yX9_bestPut (ws_ yX9_bestPut cX9_bestPut 6 (some .int)) 8 247 G h [.ref a0, .int (iI a1)] (jI r) hf :=
  zz_ofW hl (by decide +kernel) (lv := [(0, LR (some a0)), (1, LI a1)]) (by simp [lv_args, lvL, lvV, zz_rfc, zz_rfs, zz_ci, zz_cr, zz_cj, zz_cf, zz_cd]) (by simp [lg_sl, zz_rfc, zz_ci, zz_cr, zz_cj, zz_cf, zz_cd]) (fun _ X => A_X9_bestPut X a0 a1 h)
-- X2_hitsWith RenamedWords$Desk.hitsWith(II)I
noncomputable def f_X2_hitsWith (a0 : Nat) (a1 : Int) (a2 : Int) (h : HP) : Option ((Int) × HP) :=
  (rdI h (some a0) [1] 7).bind fun v1 =>
  (wrI h (some a0) [1] 7 a2).bind fun h2 =>
  (rcv h2 (some a0) [1]).bind fun b5 =>
  hb (f_X2_hits b5 a1 h2) fun v3 h4 =>
  (wrI h4 (some a0) [1] 7 v1).bind fun h7 =>
  some (v3, h7)
theorem A_X2_hitsWith {M : hp_M} {G : va_G} {h0 : HP} (X : hp_X M G h0 "RenamedWords$Desk" "hitsWith" cX2_hitsWith 5 (some .int) [] 9 275) (a0 : Nat) (a1 : Int) (a2 : Int) (h : HP) : vv M G h0 5 (hp_End M G h0) jI h 0 [(0, LR (some a0)), (1, LI a1), (2, LI a2)] [] (f_X2_hitsWith a0 a1 a2 h) := by
  unfold f_X2_hitsWith
  refine vv_aload_n (pc := 0) X (kf := 0) (i := 0) rfl 0 rfl dX2_hitsWith_0 ?_
  refine vv_getI (pc := 1) X (fun _ z => by cases List.mem_singleton.mp z; exact fl_X2_108_1) dX2_hitsWith_1 (fun v1 => ?_)
  refine vv_istore_n (pc := 4) (lv' := [(3, LI v1), (0, LR (some a0)), (1, LI a1), (2, LI a2)]) X (kf := 3) (i := 3) rfl (by decide) rfl dX2_hitsWith_4 ?_
  refine vv_aload_n (pc := 5) X (kf := 0) (i := 0) rfl 1 rfl dX2_hitsWith_5 ?_
  refine vv_iload_n (pc := 6) X (kf := 2) (i := 2) rfl 3 rfl dX2_hitsWith_6 ?_
  refine vv_putI (pc := 7) (fin := false) X (fun _ z => by cases List.mem_singleton.mp z; exact fl_X2_108_1) (fun z => nomatch z) (fun z => nomatch z) dX2_hitsWith_7 (fun h2 => ?_)
  refine vv_aload_n (pc := 10) X (kf := 0) (i := 0) rfl 1 rfl dX2_hitsWith_10 ?_
  refine vv_iload_n (pc := 11) X (kf := 1) (i := 1) rfl 2 rfl dX2_hitsWith_11 ?_
  refine vv_rcv (fun b5 t9 c9 fs9 e6 g9 k9 => ?_)
  cases List.mem_singleton.mp k9
  refine vv_callI (pc := 12) (rest := []) (by rw [e6]; rfl) (fun r8 k8 e8 => zz_callV X (m_X2_hits (hlM X) _ _ _ _ _ e8) g9 rfl rfl q2808 q2809 q2810 q133 q2811 nh_X2 rfl (by decide) (by decide) (Nat.le_of_ble_eq_true rfl) dX2_hitsWith_12) (fun v3 h4 => ?_)
  refine vv_istore (pc := 15) (lv' := [(4, LI v3), (3, LI v1), (0, LR (some a0)), (1, LI a1), (2, LI a2)]) X (by decide) rfl dX2_hitsWith_15 ?_
  refine vv_aload_n (pc := 17) X (kf := 0) (i := 0) rfl 2 rfl dX2_hitsWith_17 ?_
  refine vv_iload_n (pc := 18) X (kf := 3) (i := 3) rfl 1 rfl dX2_hitsWith_18 ?_
  refine vv_putI (pc := 19) (fin := false) X (fun _ z => by cases List.mem_singleton.mp z; exact fl_X2_108_1) (fun z => nomatch z) (fun z => nomatch z) dX2_hitsWith_19 (fun h7 => ?_)
  refine vv_iload (pc := 22) X 0 rfl dX2_hitsWith_22 ?_
  exact vv_iretI X rfl rfl dX2_hitsWith_24
theorem m_X2_hitsWith {l : Launch} (hl : l.stackTraces = false) {G : va_G} (a0 : Nat) (a1 : Int) (a2 : Int) (h : HP) : ∀ r hf, f_X2_hitsWith a0 a1 a2 h = some (r, hf) → Ct l yX2_hitsWith (ws_ yX2_hitsWith cX2_hitsWith 5 (some .int)) 9 275 G h [.ref a0, .int (iI a1), .int (iI a2)] (jI r) hf :=
  zz_ofW hl (by decide +kernel) (lv := [(0, LR (some a0)), (1, LI a1), (2, LI a2)]) (by simp [lv_args, lvL, lvV, zz_rfc, zz_rfs, zz_ci, zz_cr, zz_cj, zz_cf, zz_cd]) (by simp [lg_sl, zz_rfc, zz_ci, zz_cr, zz_cj, zz_cf, zz_cd]) (fun _ X => A_X2_hitsWith X a0 a1 a2 h)
-- X1_bestFirm RenamedWords.bestFirm(I)I
noncomputable def b_X1_bestFirm_50 (r14 : Option Nat → Int → Int → Int → Int → HP → Option ((Nat ⊕ Int) × HP)) (x0 : Option Nat) (x1 : Int) (x3 : Int) (x4 : Int) (x5 : Int) (h : HP) : Option ((Nat ⊕ Int) × HP) :=
  r14 x0 x1 x3 x4 (x5 + 1) h
theorem B_X1_bestFirm_50 {M : hp_M} {G : va_G} {h0 : HP} (X : hp_X M G h0 "RenamedWords" "bestFirm" cX1_bestFirm 7 (some .int) [] 10 307) (r14 : Option Nat → Int → Int → Int → Int → HP → Option ((Nat ⊕ Int) × HP)) (hr14 : ∀ (y0 : Option Nat) (y1 : Int) (y3 : Int) (y4 : Int) (y5 : Int) (h : HP), vv M G h0 7 (hp_End M G h0) xI h 14 [(0, LR y0), (1, LI y1), (3, LI y3), (4, LI y4), (5, LI y5)] [] (r14 y0 y1 y3 y4 y5 h)) (x0 : Option Nat) (x1 : Int) (x3 : Int) (x4 : Int) (x5 : Int) (h : HP) : vv M G h0 7 (hp_End M G h0) xI h 50 [(0, LR x0), (1, LI x1), (3, LI x3), (4, LI x4), (5, LI x5)] [] (b_X1_bestFirm_50 r14 x0 x1 x3 x4 x5 h) := by
  unfold b_X1_bestFirm_50
  refine vv_iinc (pc := 50) (lv' := [(5, LI (x5 + 1)), (0, LR x0), (1, LI x1), (3, LI x3), (4, LI x4)]) X 4 rfl (by decide) rfl dX1_bestFirm_50 ?_
  refine vv_goto (pc := 53) (tgt := 14) X dX1_bestFirm_53 rfl ?_
  exact vv_sub [1, 2, 3, 4, 0] (by rfl) (hr14 _ _ _ _ _ _)
noncomputable def c_X1_bestFirm_14 (r14 : Option Nat → Int → Int → Int → Int → HP → Option ((Nat ⊕ Int) × HP)) (x0 : Option Nat) (x1 : Int) (x3 : Int) (x4 : Int) (x5 : Int) (h : HP) : Option ((Nat ⊕ Int) × HP) :=
  iLT 26 x5
    (some (.inr x3, h))
    ((rdR h x0 [0] 0).bind fun v7 =>
    (rcv h v7 [1]).bind fun b10 =>
    hb (f_X2_hitsWith b10 x1 x5 h) fun v8 h9 =>
    iLE x4 v8
      (b_X1_bestFirm_50 r14 x0 x1 x5 v8 x5 h9)
      (b_X1_bestFirm_50 r14 x0 x1 x3 x4 x5 h9))
noncomputable def b_X1_bestFirm_14 : Option Nat → Int → Int → Int → Int → HP → Option ((Nat ⊕ Int) × HP) := fx (fun _ _ _ _ _ _ => none) (c_X1_bestFirm_14) FU
theorem C_X1_bestFirm_14 {M : hp_M} {G : va_G} {h0 : HP} (X : hp_X M G h0 "RenamedWords" "bestFirm" cX1_bestFirm 7 (some .int) [] 10 307) (r14 : Option Nat → Int → Int → Int → Int → HP → Option ((Nat ⊕ Int) × HP)) (hr14 : ∀ (y0 : Option Nat) (y1 : Int) (y3 : Int) (y4 : Int) (y5 : Int) (h : HP), vv M G h0 7 (hp_End M G h0) xI h 14 [(0, LR y0), (1, LI y1), (3, LI y3), (4, LI y4), (5, LI y5)] [] (r14 y0 y1 y3 y4 y5 h)) (x0 : Option Nat) (x1 : Int) (x3 : Int) (x4 : Int) (x5 : Int) (h : HP) : vv M G h0 7 (hp_End M G h0) xI h 14 [(0, LR x0), (1, LI x1), (3, LI x3), (4, LI x4), (5, LI x5)] [] (c_X1_bestFirm_14 r14 x0 x1 x3 x4 x5 h) := by
  unfold c_X1_bestFirm_14
  refine vv_iload (pc := 14) X 4 rfl dX1_bestFirm_14 ?_
  refine vv_bipush (pc := 16) X (by decide) dX1_bestFirm_16 ?_
  refine vv_icmp_gt (pc := 18) (tgt := 56) X dX1_bestFirm_18 rfl ?_ ?_
  · refine vv_iload_n (pc := 56) X (kf := 3) (i := 3) rfl 2 rfl dX1_bestFirm_56 ?_
    exact vv_iretI X rfl rfl dX1_bestFirm_57
  · refine vv_aload_n (pc := 21) X (kf := 0) (i := 0) rfl 0 rfl dX1_bestFirm_21 ?_
    refine vv_getR (pc := 22) X (fun _ z => by cases List.mem_singleton.mp z; exact fl_X1_35_0) dX1_bestFirm_22 (fun v7 => ?_)
    refine vv_iload_n (pc := 25) X (kf := 1) (i := 1) rfl 1 rfl dX1_bestFirm_25 ?_
    refine vv_iload (pc := 26) X 4 rfl dX1_bestFirm_26 ?_
    refine vv_rcv (fun b10 t9 c9 fs9 e11 g9 k9 => ?_)
    cases List.mem_singleton.mp k9
    refine vv_callI (pc := 28) (rest := []) (by rw [e11]; rfl) (fun r8 k8 e8 => zz_callV X (m_X2_hitsWith (hlM X) _ _ _ _ _ _ e8) g9 rfl rfl q3328 q3329 q3330 q133 q3331 nh_X2 rfl (by decide) (by decide) (Nat.le_of_ble_eq_true rfl) dX1_bestFirm_28) (fun v8 h9 => ?_)
    refine vv_istore (pc := 31) (lv' := [(6, LI v8), (0, LR x0), (1, LI x1), (3, LI x3), (4, LI x4), (5, LI x5)]) X (by decide) rfl dX1_bestFirm_31 ?_
    refine vv_iload (pc := 33) X 0 rfl dX1_bestFirm_33 ?_
    refine vv_iload (pc := 35) X 4 rfl dX1_bestFirm_35 ?_
    refine vv_icmp_ge (pc := 37) (tgt := 43) X dX1_bestFirm_37 rfl ?_ ?_
    · refine vv_iload (pc := 43) X 5 rfl dX1_bestFirm_43 ?_
      refine vv_istore_n (pc := 45) (lv' := [(3, LI x5), (6, LI v8), (0, LR x0), (1, LI x1), (4, LI x4), (5, LI x5)]) X (kf := 3) (i := 3) rfl (by decide) rfl dX1_bestFirm_45 ?_
      refine vv_iload (pc := 46) X 1 rfl dX1_bestFirm_46 ?_
      refine vv_istore (pc := 48) (lv' := [(4, LI v8), (3, LI x5), (6, LI v8), (0, LR x0), (1, LI x1), (5, LI x5)]) X (by decide) rfl dX1_bestFirm_48 ?_
      exact vv_sub [3, 4, 1, 0, 5] (by rfl) (B_X1_bestFirm_50 X r14 hr14 _ _ _ _ _ _)
    · refine vv_goto (pc := 40) (tgt := 50) X dX1_bestFirm_40 rfl ?_
      exact vv_sub [1, 2, 3, 4, 5] (by rfl) (B_X1_bestFirm_50 X r14 hr14 _ _ _ _ _ _)
theorem B_X1_bestFirm_14 {M : hp_M} {G : va_G} {h0 : HP} (X : hp_X M G h0 "RenamedWords" "bestFirm" cX1_bestFirm 7 (some .int) [] 10 307) : ∀ (x0 : Option Nat) (x1 : Int) (x3 : Int) (x4 : Int) (x5 : Int) (h : HP), vv M G h0 7 (hp_End M G h0) xI h 14 [(0, LR x0), (1, LI x1), (3, LI x3), (4, LI x4), (5, LI x5)] [] (b_X1_bestFirm_14 x0 x1 x3 x4 x5 h) := by
  unfold b_X1_bestFirm_14
  generalize FU = n
  induction n with
  | zero => intro x0 x1 x3 x4 x5 h; exact vv_none
  | succ n ih => exact C_X1_bestFirm_14 X _ ih
noncomputable def f_X1_bestFirm (a0 : Nat) (a1 : Int) (h : HP) : Option ((Nat ⊕ Int) × HP) :=
  (rcv h (some a0) [0]).bind fun b3 =>
  hbx (f_X1_patternAt b3 a1 h) (fun q5 h6 =>
      some (.inl q5, h6)) fun v1 h2 =>
  b_X1_bestFirm_14 (some a0) a1 0 (-1) 0 h2
theorem A_X1_bestFirm {M : hp_M} {G : va_G} {h0 : HP} (X : hp_X M G h0 "RenamedWords" "bestFirm" cX1_bestFirm 7 (some .int) [] 10 307) (a0 : Nat) (a1 : Int) (h : HP) : vv M G h0 7 (hp_End M G h0) xI h 0 [(0, LR (some a0)), (1, LI a1)] [] (f_X1_bestFirm a0 a1 h) := by
  unfold f_X1_bestFirm
  refine vv_aload_n (pc := 0) X (kf := 0) (i := 0) rfl 0 rfl dX1_bestFirm_0 ?_
  refine vv_iload_n (pc := 1) X (kf := 1) (i := 1) rfl 1 rfl dX1_bestFirm_1 ?_
  refine vv_rcv (fun b3 t9 c9 fs9 e4 g9 k9 => ?_)
  cases List.mem_singleton.mp k9
  refine vv_xallR (pc := 2) (rest := []) (by rw [e4]; rfl) (fun r8 k8 e8 => zz_callV X (m_X1_patternAt (hlM X) _ _ _ _ _ e8) g9 rfl rfl q3102 q3104 qs47 q132 q3105 nh_X1 rfl (by decide) (by decide) (Nat.le_of_ble_eq_true rfl) dX1_bestFirm_2) (fun v1 h2 => ?_) (fun q5 h6 => ?_)
  · refine vv_astore_n (pc := 5) (lv' := [(2, LR v1), (0, LR (some a0)), (1, LI a1)]) X (kf := 2) (i := 2) rfl (by decide) rfl dX1_bestFirm_5 ?_
    refine vv_iconst (pc := 6) X dX1_bestFirm_6 ?_
    refine vv_istore_n (pc := 7) (lv' := [(3, LI 0), (2, LR v1), (0, LR (some a0)), (1, LI a1)]) X (kf := 3) (i := 3) rfl (by decide) rfl dX1_bestFirm_7 ?_
    refine vv_iconst (pc := 8) X dX1_bestFirm_8 ?_
    refine vv_istore (pc := 9) (lv' := [(4, LI (-1)), (3, LI 0), (2, LR v1), (0, LR (some a0)), (1, LI a1)]) X (by decide) rfl dX1_bestFirm_9 ?_
    refine vv_iconst (pc := 11) X dX1_bestFirm_11 ?_
    refine vv_istore (pc := 12) (lv' := [(5, LI 0), (4, LI (-1)), (3, LI 0), (2, LR v1), (0, LR (some a0)), (1, LI a1)]) X (by decide) rfl dX1_bestFirm_12 ?_
    exact vv_sub [4, 5, 2, 1, 0] (by rfl) (B_X1_bestFirm_14 X _ _ _ _ _ _)
  · exact vvx_out X (by decide) rfl
theorem m_X1_bestFirm {l : Launch} (hl : l.stackTraces = false) {G : va_G} (a0 : Nat) (a1 : Int) (h : HP) : ∀ r hf, f_X1_bestFirm a0 a1 h = some (r, hf) → Ct l yX1_bestFirm (ws_ yX1_bestFirm cX1_bestFirm 7 (some .int)) 10 307 G h [.ref a0, .int (iI a1)] (xI r) hf :=
  zz_ofW hl (by decide +kernel) (lv := [(0, LR (some a0)), (1, LI a1)]) (by simp [lv_args, lvL, lvV, zz_rfc, zz_rfs, zz_ci, zz_cr, zz_cj, zz_cf, zz_cd]) (by simp [lg_sl, zz_rfc, zz_ci, zz_cr, zz_cj, zz_cf, zz_cd]) (fun _ X => A_X1_bestFirm X a0 a1 h)
-- X0_bestFirm RenamedWordsLaw.bestFirm(LRenamedWords;I[J)I
noncomputable def b_X0_bestFirm_12 (s0 : Option Nat) (h : HP) : Option ((Int) × HP) :=
  some (1, h)
theorem B_X0_bestFirm_12 {M : hp_M} {G : va_G} {h0 : HP} (X : hp_X M G h0 "RenamedWordsLaw" "bestFirm" cX0_bestFirm 4 (some .int) (tableOf [(0, 9, 12, 18)]) 11 341) (s0 : Option Nat) (h : HP) : vv M G h0 4 (hp_End M G h0) jI h 12 [] [LR s0] (b_X0_bestFirm_12 s0 h) := by
  unfold b_X0_bestFirm_12
  refine vv_astore_n (pc := 12) (lv' := [(3, LR s0)]) X (kf := 3) (i := 3) rfl (by decide) rfl dX0_bestFirm_12 ?_
  refine vv_iconst (pc := 13) X dX0_bestFirm_13 ?_
  exact vv_iretI X rfl rfl dX0_bestFirm_14
noncomputable def f_X0_bestFirm (a1 : Option Nat) (a2 : Int) (a3 : Option Nat) (h : HP) : Option ((Int) × HP) :=
  (rcv h a1 [0]).bind fun b3 =>
  hbx (f_X1_bestFirm b3 a2 h) (fun q5 h6 =>
      (clsOf h6 q5).bind fun c7 =>
      if c7 = 35 then
        b_X0_bestFirm_12 (some q5) h6
      else
        none) fun v1 h2 =>
  (astJ h2 a3 0 (iL v1)).bind fun h8 =>
  some (0, h8)
theorem A_X0_bestFirm {M : hp_M} {G : va_G} {h0 : HP} (X : hp_X M G h0 "RenamedWordsLaw" "bestFirm" cX0_bestFirm 4 (some .int) (tableOf [(0, 9, 12, 18)]) 11 341) (a1 : Option Nat) (a2 : Int) (a3 : Option Nat) (h : HP) : vv M G h0 4 (hp_End M G h0) jI h 0 [(0, LR a1), (1, LI a2), (2, LR a3)] [] (f_X0_bestFirm a1 a2 a3 h) := by
  unfold f_X0_bestFirm
  refine vv_aload_n (pc := 0) X (kf := 2) (i := 2) rfl 2 rfl dX0_bestFirm_0 ?_
  refine vv_iconst (pc := 1) X dX0_bestFirm_1 ?_
  refine vv_aload_n (pc := 2) X (kf := 0) (i := 0) rfl 0 rfl dX0_bestFirm_2 ?_
  refine vv_iload_n (pc := 3) X (kf := 1) (i := 1) rfl 1 rfl dX0_bestFirm_3 ?_
  refine vv_rcv (fun b3 t9 c9 fs9 e4 g9 k9 => ?_)
  cases List.mem_singleton.mp k9
  refine vv_xallI (pc := 4) (rest := [LI 0, LR a3]) (by rw [e4]; rfl) (fun r8 k8 e8 => zz_callV X (m_X1_bestFirm (hlM X) _ _ _ _ _ e8) g9 rfl rfl q3324 q3325 q3326 q132 q3327 nh_X1 rfl (by decide) (by decide) (Nat.le_of_ble_eq_true rfl) dX0_bestFirm_4) (fun v1 h2 => ?_) (fun q5 h6 => ?_)
  · refine vv_i2l (pc := 7) X dX0_bestFirm_7 ?_
    refine vv_lastore (pc := 8) X dX0_bestFirm_8 (fun h8 => ?_)
    refine vv_goto (pc := 9) (tgt := 15) X dX0_bestFirm_9 rfl ?_
    refine vv_iconst (pc := 15) X dX0_bestFirm_15 ?_
    exact vv_iretI X rfl rfl dX0_bestFirm_16
  · refine vvx_cls (fun _ c7 _ g9 => ?_)
    refine vvx_if (fun e9 => ?_) (fun _ => ?_)
    · subst e9
      refine vvx_catch X g9 rfl [] ⟨0, 9, 12, 18⟩ [] rfl (fun z hz => nomatch hz) rfl (by decide) q3041 q2274 ?_
      exact vv_sub [] (by rfl) (B_X0_bestFirm_12 X _ _)
    · exact vvx_none
theorem m_X0_bestFirm {l : Launch} (hl : l.stackTraces = false) {G : va_G} (a1 : Option Nat) (a2 : Int) (a3 : Option Nat) (h : HP) : ∀ r hf, f_X0_bestFirm a1 a2 a3 h = some (r, hf) → Ct l yX0_bestFirm (wsW_ yX0_bestFirm cX0_bestFirm 4 (some .int) [(0, 9, 12, 18)]) 11 341 G h [va_rf a1, .int (iI a2), va_rf a3] (jI r) hf :=
  zz_ofWH hl (by decide +kernel) (lv := [(0, LR a1), (1, LI a2), (2, LR a3)]) (by simp [lv_args, lvL, lvV, zz_rfc, zz_rfs, zz_ci, zz_cr, zz_cj, zz_cf, zz_cd]) (by simp [lg_sl, zz_rfc, zz_ci, zz_cr, zz_cj, zz_cf, zz_cd]) (fun _ X => A_X0_bestFirm X a1 a2 a3 h)
-- X9_bestFirm RenamedWordsModel.bestFirm(I)I
noncomputable def b_X9_bestFirm_68 (r31 : Option Nat → Int → Int → Int → Int → Int → HP → Option ((Int) × HP)) (x0 : Option Nat) (x1 : Int) (x2 : Int) (x3 : Int) (x4 : Int) (x5 : Int) (h : HP) : Option ((Int) × HP) :=
  r31 x0 x1 x2 x3 x4 (x5 + (-1)) h
theorem B_X9_bestFirm_68 {M : hp_M} {G : va_G} {h0 : HP} (X : hp_X M G h0 "RenamedWordsModel" "bestFirm" cX9_bestFirm 7 (some .int) [] 7 214) (r31 : Option Nat → Int → Int → Int → Int → Int → HP → Option ((Int) × HP)) (hr31 : ∀ (y0 : Option Nat) (y1 : Int) (y2 : Int) (y3 : Int) (y4 : Int) (y5 : Int) (h : HP), vv M G h0 7 (hp_End M G h0) jI h 31 [(0, LR y0), (1, LI y1), (2, LI y2), (3, LI y3), (4, LI y4), (5, LI y5)] [] (r31 y0 y1 y2 y3 y4 y5 h)) (x0 : Option Nat) (x1 : Int) (x2 : Int) (x3 : Int) (x4 : Int) (x5 : Int) (h : HP) : vv M G h0 7 (hp_End M G h0) jI h 68 [(0, LR x0), (1, LI x1), (2, LI x2), (3, LI x3), (4, LI x4), (5, LI x5)] [] (b_X9_bestFirm_68 r31 x0 x1 x2 x3 x4 x5 h) := by
  unfold b_X9_bestFirm_68
  refine vv_iinc (pc := 68) (lv' := [(5, LI (x5 + (-1))), (0, LR x0), (1, LI x1), (2, LI x2), (3, LI x3), (4, LI x4)]) X 5 rfl (by decide) rfl dX9_bestFirm_68 ?_
  refine vv_goto (pc := 71) (tgt := 31) X dX9_bestFirm_71 rfl ?_
  exact vv_sub [1, 2, 3, 4, 5, 0] (by rfl) (hr31 _ _ _ _ _ _ _)
noncomputable def c_X9_bestFirm_31 (r31 : Option Nat → Int → Int → Int → Int → Int → HP → Option ((Int) × HP)) (x0 : Option Nat) (x1 : Int) (x2 : Int) (x3 : Int) (x4 : Int) (x5 : Int) (h : HP) : Option ((Int) × HP) :=
  iLT x5 0
    ((rdR h x0 [7] 0).bind fun v8 =>
    (astI h .int v8 0 x2).bind fun h9 =>
    some (x3, h9))
    ((rdR h x0 [7] 0).bind fun v10 =>
    (astI h .int v10 0 x5).bind fun h11 =>
    (rcv h11 x0 [7]).bind fun b14 =>
    hb (f_X9_hits b14 x1 h11) fun v12 h13 =>
    iLT x4 v12
      (b_X9_bestFirm_68 r31 x0 x1 x2 x5 v12 x5 h13)
      (b_X9_bestFirm_68 r31 x0 x1 x2 x3 x4 x5 h13))
noncomputable def b_X9_bestFirm_31 : Option Nat → Int → Int → Int → Int → Int → HP → Option ((Int) × HP) := fx (fun _ _ _ _ _ _ _ => none) (c_X9_bestFirm_31) FU
theorem C_X9_bestFirm_31 {M : hp_M} {G : va_G} {h0 : HP} (X : hp_X M G h0 "RenamedWordsModel" "bestFirm" cX9_bestFirm 7 (some .int) [] 7 214) (r31 : Option Nat → Int → Int → Int → Int → Int → HP → Option ((Int) × HP)) (hr31 : ∀ (y0 : Option Nat) (y1 : Int) (y2 : Int) (y3 : Int) (y4 : Int) (y5 : Int) (h : HP), vv M G h0 7 (hp_End M G h0) jI h 31 [(0, LR y0), (1, LI y1), (2, LI y2), (3, LI y3), (4, LI y4), (5, LI y5)] [] (r31 y0 y1 y2 y3 y4 y5 h)) (x0 : Option Nat) (x1 : Int) (x2 : Int) (x3 : Int) (x4 : Int) (x5 : Int) (h : HP) : vv M G h0 7 (hp_End M G h0) jI h 31 [(0, LR x0), (1, LI x1), (2, LI x2), (3, LI x3), (4, LI x4), (5, LI x5)] [] (c_X9_bestFirm_31 r31 x0 x1 x2 x3 x4 x5 h) := by
  unfold c_X9_bestFirm_31
  refine vv_iload (pc := 31) X 5 rfl dX9_bestFirm_31 ?_
  refine vv_if_lt (pc := 33) (tgt := 74) X dX9_bestFirm_33 rfl ?_ ?_
  · refine vv_aload_n (pc := 74) X (kf := 0) (i := 0) rfl 0 rfl dX9_bestFirm_74 ?_
    refine vv_getR (pc := 75) X (fun _ z => by cases List.mem_singleton.mp z; exact fl_X9_9_7) dX9_bestFirm_75 (fun v8 => ?_)
    refine vv_iconst (pc := 78) X dX9_bestFirm_78 ?_
    refine vv_iload_n (pc := 79) X (kf := 2) (i := 2) rfl 2 rfl dX9_bestFirm_79 ?_
    refine vv_iastore (pc := 80) X dX9_bestFirm_80 (fun h9 => ?_)
    refine vv_iload_n (pc := 81) X (kf := 3) (i := 3) rfl 3 rfl dX9_bestFirm_81 ?_
    exact vv_iretI X rfl rfl dX9_bestFirm_82
  · refine vv_aload_n (pc := 36) X (kf := 0) (i := 0) rfl 0 rfl dX9_bestFirm_36 ?_
    refine vv_getR (pc := 37) X (fun _ z => by cases List.mem_singleton.mp z; exact fl_X9_9_7) dX9_bestFirm_37 (fun v10 => ?_)
    refine vv_iconst (pc := 40) X dX9_bestFirm_40 ?_
    refine vv_iload (pc := 41) X 5 rfl dX9_bestFirm_41 ?_
    refine vv_iastore (pc := 43) X dX9_bestFirm_43 (fun h11 => ?_)
    refine vv_aload_n (pc := 44) X (kf := 0) (i := 0) rfl 0 rfl dX9_bestFirm_44 ?_
    refine vv_iload_n (pc := 45) X (kf := 1) (i := 1) rfl 1 rfl dX9_bestFirm_45 ?_
    refine vv_rcv (fun b14 t9 c9 fs9 e15 g9 k9 => ?_)
    cases List.mem_singleton.mp k9
    refine vv_callI (pc := 46) (rest := []) (by rw [e15]; rfl) (fun r8 k8 e8 => zz_callV X (m_X9_hits (hlM X) _ _ _ _ _ e8) g9 rfl rfl q3829 q3831 qs107 q164 q3832 nh_X9 rfl (by decide) (by decide) (Nat.le_of_ble_eq_true rfl) dX9_bestFirm_46) (fun v12 h13 => ?_)
    refine vv_istore (pc := 49) (lv' := [(6, LI v12), (0, LR x0), (1, LI x1), (2, LI x2), (3, LI x3), (4, LI x4), (5, LI x5)]) X (by decide) rfl dX9_bestFirm_49 ?_
    refine vv_iload (pc := 51) X 0 rfl dX9_bestFirm_51 ?_
    refine vv_iload (pc := 53) X 5 rfl dX9_bestFirm_53 ?_
    refine vv_icmp_gt (pc := 55) (tgt := 61) X dX9_bestFirm_55 rfl ?_ ?_
    · refine vv_iload (pc := 61) X 6 rfl dX9_bestFirm_61 ?_
      refine vv_istore_n (pc := 63) (lv' := [(3, LI x5), (6, LI v12), (0, LR x0), (1, LI x1), (2, LI x2), (4, LI x4), (5, LI x5)]) X (kf := 3) (i := 3) rfl (by decide) rfl dX9_bestFirm_63 ?_
      refine vv_iload (pc := 64) X 1 rfl dX9_bestFirm_64 ?_
      refine vv_istore (pc := 66) (lv' := [(4, LI v12), (3, LI x5), (6, LI v12), (0, LR x0), (1, LI x1), (2, LI x2), (5, LI x5)]) X (by decide) rfl dX9_bestFirm_66 ?_
      exact vv_sub [3, 4, 5, 1, 0, 6] (by rfl) (B_X9_bestFirm_68 X r31 hr31 _ _ _ _ _ _ _)
    · refine vv_goto (pc := 58) (tgt := 68) X dX9_bestFirm_58 rfl ?_
      exact vv_sub [1, 2, 3, 4, 5, 6] (by rfl) (B_X9_bestFirm_68 X r31 hr31 _ _ _ _ _ _ _)
theorem B_X9_bestFirm_31 {M : hp_M} {G : va_G} {h0 : HP} (X : hp_X M G h0 "RenamedWordsModel" "bestFirm" cX9_bestFirm 7 (some .int) [] 7 214) : ∀ (x0 : Option Nat) (x1 : Int) (x2 : Int) (x3 : Int) (x4 : Int) (x5 : Int) (h : HP), vv M G h0 7 (hp_End M G h0) jI h 31 [(0, LR x0), (1, LI x1), (2, LI x2), (3, LI x3), (4, LI x4), (5, LI x5)] [] (b_X9_bestFirm_31 x0 x1 x2 x3 x4 x5 h) := by
  unfold b_X9_bestFirm_31
  generalize FU = n
  induction n with
  | zero => intro x0 x1 x2 x3 x4 x5 h; exact vv_none
  | succ n ih => exact C_X9_bestFirm_31 X _ ih
noncomputable def f_X9_bestFirm (a0 : Nat) (a1 : Int) (h : HP) : Option ((Int) × HP) :=
  (wrI h (some a0) [7] 7 0).bind fun h1 =>
  (rcv h1 (some a0) [7]).bind fun b4 =>
  hb (f_X9_noPattern b4 a1 h1) fun v2 h3 =>
  iEQ v2 0
    ((rdR h3 (some a0) [7] 0).bind fun v6 =>
    (aldI h3 .int v6 0).bind fun v7 =>
    b_X9_bestFirm_31 (some a0) a1 v7 0 (-1) 26 h3)
    (some (0, h3))
theorem A_X9_bestFirm {M : hp_M} {G : va_G} {h0 : HP} (X : hp_X M G h0 "RenamedWordsModel" "bestFirm" cX9_bestFirm 7 (some .int) [] 7 214) (a0 : Nat) (a1 : Int) (h : HP) : vv M G h0 7 (hp_End M G h0) jI h 0 [(0, LR (some a0)), (1, LI a1)] [] (f_X9_bestFirm a0 a1 h) := by
  unfold f_X9_bestFirm
  refine vv_aload_n (pc := 0) X (kf := 0) (i := 0) rfl 0 rfl dX9_bestFirm_0 ?_
  refine vv_iconst (pc := 1) X dX9_bestFirm_1 ?_
  refine vv_putI (pc := 2) (fin := false) X (fun _ z => by cases List.mem_singleton.mp z; exact fl_X9_69_7) (fun z => nomatch z) (fun z => nomatch z) dX9_bestFirm_2 (fun h1 => ?_)
  refine vv_aload_n (pc := 5) X (kf := 0) (i := 0) rfl 0 rfl dX9_bestFirm_5 ?_
  refine vv_iload_n (pc := 6) X (kf := 1) (i := 1) rfl 1 rfl dX9_bestFirm_6 ?_
  refine vv_rcv (fun b4 t9 c9 fs9 e5 g9 k9 => ?_)
  cases List.mem_singleton.mp k9
  refine vv_callI (pc := 7) (rest := []) (by rw [e5]; rfl) (fun r8 k8 e8 => zz_callV X (m_X9_noPattern (hlM X) _ _ _ _ _ e8) g9 rfl rfl q3876 q3878 qs113 q164 q3879 nh_X9 rfl (by decide) (by decide) (Nat.le_of_ble_eq_true rfl) dX9_bestFirm_7) (fun v2 h3 => ?_)
  refine vv_if_eq (pc := 10) (tgt := 15) X dX9_bestFirm_10 rfl ?_ ?_
  · refine vv_aload_n (pc := 15) X (kf := 0) (i := 0) rfl 0 rfl dX9_bestFirm_15 ?_
    refine vv_getR (pc := 16) X (fun _ z => by cases List.mem_singleton.mp z; exact fl_X9_9_7) dX9_bestFirm_16 (fun v6 => ?_)
    refine vv_iconst (pc := 19) X dX9_bestFirm_19 ?_
    refine vv_iaload (pc := 20) X dX9_bestFirm_20 (fun v7 => ?_)
    refine vv_istore_n (pc := 21) (lv' := [(2, LI v7), (0, LR (some a0)), (1, LI a1)]) X (kf := 2) (i := 2) rfl (by decide) rfl dX9_bestFirm_21 ?_
    refine vv_iconst (pc := 22) X dX9_bestFirm_22 ?_
    refine vv_istore_n (pc := 23) (lv' := [(3, LI 0), (2, LI v7), (0, LR (some a0)), (1, LI a1)]) X (kf := 3) (i := 3) rfl (by decide) rfl dX9_bestFirm_23 ?_
    refine vv_iconst (pc := 24) X dX9_bestFirm_24 ?_
    refine vv_istore (pc := 25) (lv' := [(4, LI (-1)), (3, LI 0), (2, LI v7), (0, LR (some a0)), (1, LI a1)]) X (by decide) rfl dX9_bestFirm_25 ?_
    refine vv_bipush (pc := 27) X (by decide) dX9_bestFirm_27 ?_
    refine vv_istore (pc := 29) (lv' := [(5, LI 26), (4, LI (-1)), (3, LI 0), (2, LI v7), (0, LR (some a0)), (1, LI a1)]) X (by decide) rfl dX9_bestFirm_29 ?_
    exact vv_sub [4, 5, 3, 2, 1, 0] (by rfl) (B_X9_bestFirm_31 X _ _ _ _ _ _ _)
  · refine vv_iconst (pc := 13) X dX9_bestFirm_13 ?_
    exact vv_iretI X rfl rfl dX9_bestFirm_14
theorem m_X9_bestFirm {l : Launch} (hl : l.stackTraces = false) {G : va_G} (a0 : Nat) (a1 : Int) (h : HP) : ∀ r hf, f_X9_bestFirm a0 a1 h = some (r, hf) → Ct l yX9_bestFirm (ws_ yX9_bestFirm cX9_bestFirm 7 (some .int)) 7 214 G h [.ref a0, .int (iI a1)] (jI r) hf :=
  zz_ofW hl (by decide +kernel) (lv := [(0, LR (some a0)), (1, LI a1)]) (by simp [lv_args, lvL, lvV, zz_rfc, zz_rfs, zz_ci, zz_cr, zz_cj, zz_cf, zz_cd]) (by simp [lg_sl, zz_rfc, zz_ci, zz_cr, zz_cj, zz_cf, zz_cd]) (fun _ X => A_X9_bestFirm X a0 a1 h)
-- X1_firmAt RenamedWords.firmAt(I)V
noncomputable def f_X1_firmAt (a1 : Int) (h : HP) : Option ((Nat ⊕ Unit) × HP) :=
  hb (f_X1_in (iL a1) 0 (26 : Int64) h) fun v1 h2 =>
  hbx (f_X1_argument v1 h2) (fun q5 h6 =>
      some (.inl q5, h6)) fun _ h4 =>
  some (.inr (), h4)
theorem A_X1_firmAt {M : hp_M} {G : va_G} {h0 : HP} (X : hp_X M G h0 "RenamedWords" "firmAt" cX1_firmAt 1 none [] 7 125) (a1 : Int) (h : HP) : vv M G h0 1 (hp_End M G h0) xV h 0 [(0, LI a1)] [] (f_X1_firmAt a1 h) := by
  unfold f_X1_firmAt
  refine vv_iload_n (pc := 0) X (kf := 0) (i := 0) rfl 0 rfl dX1_firmAt_0 ?_
  refine vv_i2l (pc := 1) X dX1_firmAt_1 ?_
  refine vv_lconst (pc := 2) (v := 0) X (by decide) dX1_firmAt_2 ?_
  refine vv_ldc2 (pc := 3) X q3342 dX1_firmAt_3 ?_
  refine vv_callI (pc := 6) (rest := []) (by rfl) (fun r8 k8 e8 => zz_callS X (m_X1_in (hlM X) _ _ _ _ _ _ e8) q2984 q873 q132 q874 nh_X1 rfl (by decide) (by decide) (Nat.le_of_ble_eq_true rfl) dX1_firmAt_6) (fun v1 h2 => ?_)
  refine vv_xallV (pc := 9) (rest := []) (by rfl) (fun r8 k8 e8 => zz_callS X (m_X1_argument (hlM X) _ _ _ _ e8) q3090 q3091 q132 q3092 nh_X1 rfl (by decide) (by decide) (Nat.le_of_ble_eq_true rfl) dX1_firmAt_9) (fun v3 h4 => ?_) (fun q5 h6 => ?_)
  · exact vv_vreturn X rfl rfl dX1_firmAt_12
  · exact vvx_out X (by decide) rfl
theorem m_X1_firmAt {l : Launch} (hl : l.stackTraces = false) {G : va_G} (a1 : Int) (h : HP) : ∀ r hf, f_X1_firmAt a1 h = some (r, hf) → Ct l yX1_firmAt (ws_ yX1_firmAt cX1_firmAt 1 none) 7 125 G h [.int (iI a1)] (xV r) hf :=
  zz_ofW hl (by decide +kernel) (lv := [(0, LI a1)]) (by simp [lv_args, lvL, lvV, zz_rfc, zz_rfs, zz_ci, zz_cr, zz_cj, zz_cf, zz_cd]) (by simp [lg_sl, zz_rfc, zz_ci, zz_cr, zz_cj, zz_cf, zz_cd]) (fun _ X => A_X1_firmAt X a1 h)
-- X2_lostWith RenamedWords$Desk.lostWith(I)I
noncomputable def f_X2_lostWith (a0 : Nat) (a1 : Int) (h : HP) : Option ((Int) × HP) :=
  (rdI h (some a0) [1] 7).bind fun v1 =>
  (wrI h (some a0) [1] 7 a1).bind fun h2 =>
  (rcv h2 (some a0) [1]).bind fun b5 =>
  hb (f_X2_wrongMarks b5 h2) fun v3 h4 =>
  (wrI h4 (some a0) [1] 7 v1).bind fun h7 =>
  some (v3, h7)
theorem A_X2_lostWith {M : hp_M} {G : va_G} {h0 : HP} (X : hp_X M G h0 "RenamedWords$Desk" "lostWith" cX2_lostWith 4 (some .int) [] 9 275) (a0 : Nat) (a1 : Int) (h : HP) : vv M G h0 4 (hp_End M G h0) jI h 0 [(0, LR (some a0)), (1, LI a1)] [] (f_X2_lostWith a0 a1 h) := by
  unfold f_X2_lostWith
  refine vv_aload_n (pc := 0) X (kf := 0) (i := 0) rfl 0 rfl dX2_lostWith_0 ?_
  refine vv_getI (pc := 1) X (fun _ z => by cases List.mem_singleton.mp z; exact fl_X2_108_1) dX2_lostWith_1 (fun v1 => ?_)
  refine vv_istore_n (pc := 4) (lv' := [(2, LI v1), (0, LR (some a0)), (1, LI a1)]) X (kf := 2) (i := 2) rfl (by decide) rfl dX2_lostWith_4 ?_
  refine vv_aload_n (pc := 5) X (kf := 0) (i := 0) rfl 1 rfl dX2_lostWith_5 ?_
  refine vv_iload_n (pc := 6) X (kf := 1) (i := 1) rfl 2 rfl dX2_lostWith_6 ?_
  refine vv_putI (pc := 7) (fin := false) X (fun _ z => by cases List.mem_singleton.mp z; exact fl_X2_108_1) (fun z => nomatch z) (fun z => nomatch z) dX2_lostWith_7 (fun h2 => ?_)
  refine vv_aload_n (pc := 10) X (kf := 0) (i := 0) rfl 1 rfl dX2_lostWith_10 ?_
  refine vv_rcv (fun b5 t9 c9 fs9 e6 g9 k9 => ?_)
  cases List.mem_singleton.mp k9
  refine vv_callI (pc := 11) (rest := []) (by rw [e6]; rfl) (fun r8 k8 e8 => zz_callV X (m_X2_wrongMarks (hlM X) _ _ _ _ e8) g9 rfl rfl q3347 q2836 q2837 q133 q2838 nh_X2 rfl (by decide) (by decide) (Nat.le_of_ble_eq_true rfl) dX2_lostWith_11) (fun v3 h4 => ?_)
  refine vv_istore_n (pc := 14) (lv' := [(3, LI v3), (2, LI v1), (0, LR (some a0)), (1, LI a1)]) X (kf := 3) (i := 3) rfl (by decide) rfl dX2_lostWith_14 ?_
  refine vv_aload_n (pc := 15) X (kf := 0) (i := 0) rfl 2 rfl dX2_lostWith_15 ?_
  refine vv_iload_n (pc := 16) X (kf := 2) (i := 2) rfl 1 rfl dX2_lostWith_16 ?_
  refine vv_putI (pc := 17) (fin := false) X (fun _ z => by cases List.mem_singleton.mp z; exact fl_X2_108_1) (fun z => nomatch z) (fun z => nomatch z) dX2_lostWith_17 (fun h7 => ?_)
  refine vv_iload_n (pc := 20) X (kf := 3) (i := 3) rfl 0 rfl dX2_lostWith_20 ?_
  exact vv_iretI X rfl rfl dX2_lostWith_21
theorem m_X2_lostWith {l : Launch} (hl : l.stackTraces = false) {G : va_G} (a0 : Nat) (a1 : Int) (h : HP) : ∀ r hf, f_X2_lostWith a0 a1 h = some (r, hf) → Ct l yX2_lostWith (ws_ yX2_lostWith cX2_lostWith 4 (some .int)) 9 275 G h [.ref a0, .int (iI a1)] (jI r) hf :=
  zz_ofW hl (by decide +kernel) (lv := [(0, LR (some a0)), (1, LI a1)]) (by simp [lv_args, lvL, lvV, zz_rfc, zz_rfs, zz_ci, zz_cr, zz_cj, zz_cf, zz_cd]) (by simp [lg_sl, zz_rfc, zz_ci, zz_cr, zz_cj, zz_cf, zz_cd]) (fun _ X => A_X2_lostWith X a0 a1 h)
-- X1_lostIf RenamedWords.lostIf(I)I
noncomputable def f_X1_lostIf (a0 : Nat) (a1 : Int) (h : HP) : Option ((Nat ⊕ Int) × HP) :=
  hbx (f_X1_firmAt a1 h) (fun q3 h4 =>
      some (.inl q3, h4)) fun _ h2 =>
  (rdR h2 (some a0) [0] 0).bind fun v5 =>
  (rcv h2 v5 [1]).bind fun b8 =>
  hb (f_X2_lostWith b8 a1 h2) fun v6 h7 =>
  some (.inr v6, h7)
theorem A_X1_lostIf {M : hp_M} {G : va_G} {h0 : HP} (X : hp_X M G h0 "RenamedWords" "lostIf" cX1_lostIf 2 (some .int) [] 10 306) (a0 : Nat) (a1 : Int) (h : HP) : vv M G h0 2 (hp_End M G h0) xI h 0 [(0, LR (some a0)), (1, LI a1)] [] (f_X1_lostIf a0 a1 h) := by
  unfold f_X1_lostIf
  refine vv_iload_n (pc := 0) X (kf := 1) (i := 1) rfl 1 rfl dX1_lostIf_0 ?_
  refine vv_xallV (pc := 1) (rest := []) (by rfl) (fun r8 k8 e8 => zz_callS X (m_X1_firmAt (hlM X) _ _ _ _ e8) q3339 q3340 q132 q3341 nh_X1 rfl (by decide) (by decide) (Nat.le_of_ble_eq_true rfl) dX1_lostIf_1) (fun v1 h2 => ?_) (fun q3 h4 => ?_)
  · refine vv_aload_n (pc := 4) X (kf := 0) (i := 0) rfl 0 rfl dX1_lostIf_4 ?_
    refine vv_getR (pc := 5) X (fun _ z => by cases List.mem_singleton.mp z; exact fl_X1_35_0) dX1_lostIf_5 (fun v5 => ?_)
    refine vv_iload_n (pc := 8) X (kf := 1) (i := 1) rfl 1 rfl dX1_lostIf_8 ?_
    refine vv_rcv (fun b8 t9 c9 fs9 e9 g9 k9 => ?_)
    cases List.mem_singleton.mp k9
    refine vv_callI (pc := 9) (rest := []) (by rw [e9]; rfl) (fun r8 k8 e8 => zz_callV X (m_X2_lostWith (hlM X) _ _ _ _ _ e8) g9 rfl rfl q3343 q3344 q3345 q133 q3346 nh_X2 rfl (by decide) (by decide) (Nat.le_of_ble_eq_true rfl) dX1_lostIf_9) (fun v6 h7 => ?_)
    exact vv_iretI X rfl rfl dX1_lostIf_12
  · exact vvx_out X (by decide) rfl
theorem m_X1_lostIf {l : Launch} (hl : l.stackTraces = false) {G : va_G} (a0 : Nat) (a1 : Int) (h : HP) : ∀ r hf, f_X1_lostIf a0 a1 h = some (r, hf) → Ct l yX1_lostIf (ws_ yX1_lostIf cX1_lostIf 2 (some .int)) 10 306 G h [.ref a0, .int (iI a1)] (xI r) hf :=
  zz_ofW hl (by decide +kernel) (lv := [(0, LR (some a0)), (1, LI a1)]) (by simp [lv_args, lvL, lvV, zz_rfc, zz_rfs, zz_ci, zz_cr, zz_cj, zz_cf, zz_cd]) (by simp [lg_sl, zz_rfc, zz_ci, zz_cr, zz_cj, zz_cf, zz_cd]) (fun _ X => A_X1_lostIf X a0 a1 h)
-- X0_lostIf RenamedWordsLaw.lostIf(LRenamedWords;I[J)I
noncomputable def b_X0_lostIf_12 (s0 : Option Nat) (h : HP) : Option ((Int) × HP) :=
  some (1, h)
theorem B_X0_lostIf_12 {M : hp_M} {G : va_G} {h0 : HP} (X : hp_X M G h0 "RenamedWordsLaw" "lostIf" cX0_lostIf 4 (some .int) (tableOf [(0, 9, 12, 13)]) 11 335) (s0 : Option Nat) (h : HP) : vv M G h0 4 (hp_End M G h0) jI h 12 [] [LR s0] (b_X0_lostIf_12 s0 h) := by
  unfold b_X0_lostIf_12
  refine vv_astore_n (pc := 12) (lv' := [(3, LR s0)]) X (kf := 3) (i := 3) rfl (by decide) rfl dX0_lostIf_12 ?_
  refine vv_iconst (pc := 13) X dX0_lostIf_13 ?_
  exact vv_iretI X rfl rfl dX0_lostIf_14
noncomputable def f_X0_lostIf (a1 : Option Nat) (a2 : Int) (a3 : Option Nat) (h : HP) : Option ((Int) × HP) :=
  (rcv h a1 [0]).bind fun b3 =>
  hbx (f_X1_lostIf b3 a2 h) (fun q5 h6 =>
      (clsOf h6 q5).bind fun c7 =>
      if c7 = 36 then
        b_X0_lostIf_12 (some q5) h6
      else
        none) fun v1 h2 =>
  (astJ h2 a3 0 (iL v1)).bind fun h8 =>
  some (0, h8)
theorem A_X0_lostIf {M : hp_M} {G : va_G} {h0 : HP} (X : hp_X M G h0 "RenamedWordsLaw" "lostIf" cX0_lostIf 4 (some .int) (tableOf [(0, 9, 12, 13)]) 11 335) (a1 : Option Nat) (a2 : Int) (a3 : Option Nat) (h : HP) : vv M G h0 4 (hp_End M G h0) jI h 0 [(0, LR a1), (1, LI a2), (2, LR a3)] [] (f_X0_lostIf a1 a2 a3 h) := by
  unfold f_X0_lostIf
  refine vv_aload_n (pc := 0) X (kf := 2) (i := 2) rfl 2 rfl dX0_lostIf_0 ?_
  refine vv_iconst (pc := 1) X dX0_lostIf_1 ?_
  refine vv_aload_n (pc := 2) X (kf := 0) (i := 0) rfl 0 rfl dX0_lostIf_2 ?_
  refine vv_iload_n (pc := 3) X (kf := 1) (i := 1) rfl 1 rfl dX0_lostIf_3 ?_
  refine vv_rcv (fun b3 t9 c9 fs9 e4 g9 k9 => ?_)
  cases List.mem_singleton.mp k9
  refine vv_xallI (pc := 4) (rest := [LI 0, LR a3]) (by rw [e4]; rfl) (fun r8 k8 e8 => zz_callV X (m_X1_lostIf (hlM X) _ _ _ _ _ e8) g9 rfl rfl q3335 q3336 q3337 q132 q3338 nh_X1 rfl (by decide) (by decide) (Nat.le_of_ble_eq_true rfl) dX0_lostIf_4) (fun v1 h2 => ?_) (fun q5 h6 => ?_)
  · refine vv_i2l (pc := 7) X dX0_lostIf_7 ?_
    refine vv_lastore (pc := 8) X dX0_lostIf_8 (fun h8 => ?_)
    refine vv_goto (pc := 9) (tgt := 15) X dX0_lostIf_9 rfl ?_
    refine vv_iconst (pc := 15) X dX0_lostIf_15 ?_
    exact vv_iretI X rfl rfl dX0_lostIf_16
  · refine vvx_cls (fun _ c7 _ g9 => ?_)
    refine vvx_if (fun e9 => ?_) (fun _ => ?_)
    · subst e9
      refine vvx_catch X g9 rfl [] ⟨0, 9, 12, 13⟩ [] rfl (fun z hz => nomatch hz) rfl (by decide) q3013 q275 ?_
      exact vv_sub [] (by rfl) (B_X0_lostIf_12 X _ _)
    · exact vvx_none
theorem m_X0_lostIf {l : Launch} (hl : l.stackTraces = false) {G : va_G} (a1 : Option Nat) (a2 : Int) (a3 : Option Nat) (h : HP) : ∀ r hf, f_X0_lostIf a1 a2 a3 h = some (r, hf) → Ct l yX0_lostIf (wsW_ yX0_lostIf cX0_lostIf 4 (some .int) [(0, 9, 12, 13)]) 11 335 G h [va_rf a1, .int (iI a2), va_rf a3] (jI r) hf :=
  zz_ofWH hl (by decide +kernel) (lv := [(0, LR a1), (1, LI a2), (2, LR a3)]) (by simp [lv_args, lvL, lvV, zz_rfc, zz_rfs, zz_ci, zz_cr, zz_cj, zz_cf, zz_cd]) (by simp [lg_sl, zz_rfc, zz_ci, zz_cr, zz_cj, zz_cf, zz_cd]) (fun _ X => A_X0_lostIf X a1 a2 a3 h)
