/-! STAGE 1c: functions and contracts (printed by gen/mkfuncs.py). -/
set_option maxRecDepth 100000
set_option linter.unusedVariables false
-- X1_bytesIn RenamedWords.bytesIn(I)I
noncomputable def b_X1_bytesIn_72 (s0 : Int) (s1 : Int) (h : HP) : Option ((Int) × HP) :=
  hb (f_X1_one s0 h) fun v7 h8 =>
  some ((s1 + v7), h8)
theorem B_X1_bytesIn_72 {M : hp_M} {G : va_G} {h0 : HP} (X : hp_X M G h0 "RenamedWords" "bytesIn" cX1_bytesIn 1 (some .int) [] 1 28) (s0 : Int) (s1 : Int) (h : HP) : vv M G h0 1 (hp_End M G h0) jI h 72 [] [LI s0, LI s1] (b_X1_bytesIn_72 s0 s1 h) := by
  unfold b_X1_bytesIn_72
  refine vv_callI (pc := 72) (rest := [LI s1]) (by rfl) (fun r8 k8 e8 => zz_callS X (m_X1_one (hlM X) _ _ _ _ e8) q835 q836 q132 q837 nh_X1 rfl (by decide) (by decide) (Nat.le_of_ble_eq_true rfl) dX1_bytesIn_72) (fun v7 h8 => ?_)
  refine vv_iadd (pc := 75) X dX1_bytesIn_75 ?_
  exact vv_iretI X rfl rfl dX1_bytesIn_76
noncomputable def b_X1_bytesIn_55 (x0 : Int) (s0 : Int) (s1 : Int) (h : HP) : Option ((Int) × HP) :=
  hb (f_X1_one s0 h) fun v5 h6 =>
  iEQ (iAnd x0 255) 0
    (b_X1_bytesIn_72 0 (s1 + v5) h6)
    (b_X1_bytesIn_72 1 (s1 + v5) h6)
theorem B_X1_bytesIn_55 {M : hp_M} {G : va_G} {h0 : HP} (X : hp_X M G h0 "RenamedWords" "bytesIn" cX1_bytesIn 1 (some .int) [] 1 28) (x0 : Int) (s0 : Int) (s1 : Int) (h : HP) : vv M G h0 1 (hp_End M G h0) jI h 55 [(0, LI x0)] [LI s0, LI s1] (b_X1_bytesIn_55 x0 s0 s1 h) := by
  unfold b_X1_bytesIn_55
  refine vv_callI (pc := 55) (rest := [LI s1]) (by rfl) (fun r8 k8 e8 => zz_callS X (m_X1_one (hlM X) _ _ _ _ e8) q835 q836 q132 q837 nh_X1 rfl (by decide) (by decide) (Nat.le_of_ble_eq_true rfl) dX1_bytesIn_55) (fun v5 h6 => ?_)
  refine vv_iadd (pc := 58) X dX1_bytesIn_58 ?_
  refine vv_iload_n (pc := 59) X (kf := 0) (i := 0) rfl 0 rfl dX1_bytesIn_59 ?_
  refine vv_sipush (pc := 60) X (by decide) dX1_bytesIn_60 ?_
  refine vv_iand (pc := 63) X dX1_bytesIn_63 ?_
  refine vv_if_eq (pc := 64) (tgt := 71) X dX1_bytesIn_64 rfl ?_ ?_
  · refine vv_iconst (pc := 71) X dX1_bytesIn_71 ?_
    exact vv_sub [] (by rfl) (B_X1_bytesIn_72 X _ _ _)
  · refine vv_iconst (pc := 67) X dX1_bytesIn_67 ?_
    refine vv_goto (pc := 68) (tgt := 72) X dX1_bytesIn_68 rfl ?_
    exact vv_sub [] (by rfl) (B_X1_bytesIn_72 X _ _ _)
noncomputable def b_X1_bytesIn_35 (x0 : Int) (s0 : Int) (s1 : Int) (h : HP) : Option ((Int) × HP) :=
  hb (f_X1_one s0 h) fun v3 h4 =>
  iEQ (iAnd (iShr x0 8) 255) 0
    (b_X1_bytesIn_55 x0 0 (s1 + v3) h4)
    (b_X1_bytesIn_55 x0 1 (s1 + v3) h4)
theorem B_X1_bytesIn_35 {M : hp_M} {G : va_G} {h0 : HP} (X : hp_X M G h0 "RenamedWords" "bytesIn" cX1_bytesIn 1 (some .int) [] 1 28) (x0 : Int) (s0 : Int) (s1 : Int) (h : HP) : vv M G h0 1 (hp_End M G h0) jI h 35 [(0, LI x0)] [LI s0, LI s1] (b_X1_bytesIn_35 x0 s0 s1 h) := by
  unfold b_X1_bytesIn_35
  refine vv_callI (pc := 35) (rest := [LI s1]) (by rfl) (fun r8 k8 e8 => zz_callS X (m_X1_one (hlM X) _ _ _ _ e8) q835 q836 q132 q837 nh_X1 rfl (by decide) (by decide) (Nat.le_of_ble_eq_true rfl) dX1_bytesIn_35) (fun v3 h4 => ?_)
  refine vv_iadd (pc := 38) X dX1_bytesIn_38 ?_
  refine vv_iload_n (pc := 39) X (kf := 0) (i := 0) rfl 0 rfl dX1_bytesIn_39 ?_
  refine vv_bipush (pc := 40) X (by decide) dX1_bytesIn_40 ?_
  refine vv_ishr (pc := 42) X dX1_bytesIn_42 ?_
  refine vv_sipush (pc := 43) X (by decide) dX1_bytesIn_43 ?_
  refine vv_iand (pc := 46) X dX1_bytesIn_46 ?_
  refine vv_if_eq (pc := 47) (tgt := 54) X dX1_bytesIn_47 rfl ?_ ?_
  · refine vv_iconst (pc := 54) X dX1_bytesIn_54 ?_
    exact B_X1_bytesIn_55 X _ _ _ _
  · refine vv_iconst (pc := 50) X dX1_bytesIn_50 ?_
    refine vv_goto (pc := 51) (tgt := 55) X dX1_bytesIn_51 rfl ?_
    exact B_X1_bytesIn_55 X _ _ _ _
noncomputable def b_X1_bytesIn_16 (x0 : Int) (s0 : Int) (h : HP) : Option ((Int) × HP) :=
  hb (f_X1_one s0 h) fun v1 h2 =>
  iEQ (iAnd (iShr x0 16) 255) 0
    (b_X1_bytesIn_35 x0 0 v1 h2)
    (b_X1_bytesIn_35 x0 1 v1 h2)
theorem B_X1_bytesIn_16 {M : hp_M} {G : va_G} {h0 : HP} (X : hp_X M G h0 "RenamedWords" "bytesIn" cX1_bytesIn 1 (some .int) [] 1 28) (x0 : Int) (s0 : Int) (h : HP) : vv M G h0 1 (hp_End M G h0) jI h 16 [(0, LI x0)] [LI s0] (b_X1_bytesIn_16 x0 s0 h) := by
  unfold b_X1_bytesIn_16
  refine vv_callI (pc := 16) (rest := []) (by rfl) (fun r8 k8 e8 => zz_callS X (m_X1_one (hlM X) _ _ _ _ e8) q835 q836 q132 q837 nh_X1 rfl (by decide) (by decide) (Nat.le_of_ble_eq_true rfl) dX1_bytesIn_16) (fun v1 h2 => ?_)
  refine vv_iload_n (pc := 19) X (kf := 0) (i := 0) rfl 0 rfl dX1_bytesIn_19 ?_
  refine vv_bipush (pc := 20) X (by decide) dX1_bytesIn_20 ?_
  refine vv_ishr (pc := 22) X dX1_bytesIn_22 ?_
  refine vv_sipush (pc := 23) X (by decide) dX1_bytesIn_23 ?_
  refine vv_iand (pc := 26) X dX1_bytesIn_26 ?_
  refine vv_if_eq (pc := 27) (tgt := 34) X dX1_bytesIn_27 rfl ?_ ?_
  · refine vv_iconst (pc := 34) X dX1_bytesIn_34 ?_
    exact B_X1_bytesIn_35 X _ _ _ _
  · refine vv_iconst (pc := 30) X dX1_bytesIn_30 ?_
    refine vv_goto (pc := 31) (tgt := 35) X dX1_bytesIn_31 rfl ?_
    exact B_X1_bytesIn_35 X _ _ _ _
noncomputable def f_X1_bytesIn (a1 : Int) (h : HP) : Option ((Int) × HP) :=
  iEQ (iAnd (iShr a1 24) 255) 0
    (b_X1_bytesIn_16 a1 0 h)
    (b_X1_bytesIn_16 a1 1 h)
theorem A_X1_bytesIn {M : hp_M} {G : va_G} {h0 : HP} (X : hp_X M G h0 "RenamedWords" "bytesIn" cX1_bytesIn 1 (some .int) [] 1 28) (a1 : Int) (h : HP) : vv M G h0 1 (hp_End M G h0) jI h 0 [(0, LI a1)] [] (f_X1_bytesIn a1 h) := by
  unfold f_X1_bytesIn
  refine vv_iload_n (pc := 0) X (kf := 0) (i := 0) rfl 0 rfl dX1_bytesIn_0 ?_
  refine vv_bipush (pc := 1) X (by decide) dX1_bytesIn_1 ?_
  refine vv_ishr (pc := 3) X dX1_bytesIn_3 ?_
  refine vv_sipush (pc := 4) X (by decide) dX1_bytesIn_4 ?_
  refine vv_iand (pc := 7) X dX1_bytesIn_7 ?_
  refine vv_if_eq (pc := 8) (tgt := 15) X dX1_bytesIn_8 rfl ?_ ?_
  · refine vv_iconst (pc := 15) X dX1_bytesIn_15 ?_
    exact B_X1_bytesIn_16 X _ _ _
  · refine vv_iconst (pc := 11) X dX1_bytesIn_11 ?_
    refine vv_goto (pc := 12) (tgt := 16) X dX1_bytesIn_12 rfl ?_
    exact B_X1_bytesIn_16 X _ _ _
theorem m_X1_bytesIn {l : Launch} (hl : l.stackTraces = false) {G : va_G} (a1 : Int) (h : HP) : ∀ r hf, f_X1_bytesIn a1 h = some (r, hf) → Ct l yX1_bytesIn (ws_ yX1_bytesIn cX1_bytesIn 1 (some .int)) 1 28 G h [.int (iI a1)] (jI r) hf :=
  zz_ofW hl (by decide +kernel) (lv := [(0, LI a1)]) (by simp [lv_args, lvL, lvV, zz_rfc, zz_rfs, zz_ci, zz_cr, zz_cj, zz_cf, zz_cd]) (by simp [lg_sl, zz_rfc, zz_ci, zz_cr, zz_cj, zz_cf, zz_cd]) (fun _ X => A_X1_bytesIn X a1 h)
-- X1_puts RenamedWords.puts(I)V
noncomputable def b_X1_puts_43 (r3 : Option Nat → Int → Int → HP → Option ((Unit) × HP)) (x0 : Option Nat) (x1 : Int) (x2 : Int) (h : HP) : Option ((Unit) × HP) :=
  r3 x0 x1 (x2 + (-8)) h
theorem B_X1_puts_43 {M : hp_M} {G : va_G} {h0 : HP} (X : hp_X M G h0 "RenamedWords" "puts" cX1_puts 4 none [] 0 0) (r3 : Option Nat → Int → Int → HP → Option ((Unit) × HP)) (hr3 : ∀ (y0 : Option Nat) (y1 : Int) (y2 : Int) (h : HP), vv M G h0 4 (hp_End M G h0) jV h 3 [(0, LR y0), (1, LI y1), (2, LI y2)] [] (r3 y0 y1 y2 h)) (x0 : Option Nat) (x1 : Int) (x2 : Int) (h : HP) : vv M G h0 4 (hp_End M G h0) jV h 43 [(0, LR x0), (1, LI x1), (2, LI x2)] [] (b_X1_puts_43 r3 x0 x1 x2 h) := by
  unfold b_X1_puts_43
  refine vv_iinc (pc := 43) (lv' := [(2, LI (x2 + (-8))), (0, LR x0), (1, LI x1)]) X 2 rfl (by decide) rfl dX1_puts_43 ?_
  refine vv_goto (pc := 46) (tgt := 3) X dX1_puts_46 rfl ?_
  exact vv_sub [1, 2, 0] (by rfl) (hr3 _ _ _ _)
noncomputable def c_X1_puts_3 (r3 : Option Nat → Int → Int → HP → Option ((Unit) × HP)) (x0 : Option Nat) (x1 : Int) (x2 : Int) (h : HP) : Option ((Unit) × HP) :=
  iLT x2 0
    (some ((), h))
    (iEQ (iAnd (iShr x1 x2) 255) 0
      (b_X1_puts_43 r3 x0 x1 x2 h)
      ((rdR h x0 [0] 4).bind fun v1 =>
      (rdI h x0 [0] 5).bind fun v2 =>
      (astB h v1 v2 (iB (iAnd (iShr x1 x2) 255))).bind fun h3 =>
      (rdI h3 x0 [0] 5).bind fun v4 =>
      (wrI h3 x0 [0] 5 (v4 + 1)).bind fun h5 =>
      b_X1_puts_43 r3 x0 x1 x2 h5))
noncomputable def b_X1_puts_3 : Option Nat → Int → Int → HP → Option ((Unit) × HP) := fx (fun _ _ _ _ => none) (c_X1_puts_3) FU
theorem C_X1_puts_3 {M : hp_M} {G : va_G} {h0 : HP} (X : hp_X M G h0 "RenamedWords" "puts" cX1_puts 4 none [] 0 0) (r3 : Option Nat → Int → Int → HP → Option ((Unit) × HP)) (hr3 : ∀ (y0 : Option Nat) (y1 : Int) (y2 : Int) (h : HP), vv M G h0 4 (hp_End M G h0) jV h 3 [(0, LR y0), (1, LI y1), (2, LI y2)] [] (r3 y0 y1 y2 h)) (x0 : Option Nat) (x1 : Int) (x2 : Int) (h : HP) : vv M G h0 4 (hp_End M G h0) jV h 3 [(0, LR x0), (1, LI x1), (2, LI x2)] [] (c_X1_puts_3 r3 x0 x1 x2 h) := by
  unfold c_X1_puts_3
  refine vv_iload_n (pc := 3) X (kf := 2) (i := 2) rfl 2 rfl dX1_puts_3 ?_
  refine vv_if_lt (pc := 4) (tgt := 49) X dX1_puts_4 rfl ?_ ?_
  · exact vv_vreturn X rfl rfl dX1_puts_49
  · refine vv_iload_n (pc := 7) X (kf := 1) (i := 1) rfl 1 rfl dX1_puts_7 ?_
    refine vv_iload_n (pc := 8) X (kf := 2) (i := 2) rfl 2 rfl dX1_puts_8 ?_
    refine vv_ishr (pc := 9) X dX1_puts_9 ?_
    refine vv_sipush (pc := 10) X (by decide) dX1_puts_10 ?_
    refine vv_iand (pc := 13) X dX1_puts_13 ?_
    refine vv_istore_n (pc := 14) (lv' := [(3, LI (iAnd (iShr x1 x2) 255)), (0, LR x0), (1, LI x1), (2, LI x2)]) X (kf := 3) (i := 3) rfl (by decide) rfl dX1_puts_14 ?_
    refine vv_iload_n (pc := 15) X (kf := 3) (i := 3) rfl 0 rfl dX1_puts_15 ?_
    refine vv_if_ne (pc := 16) (tgt := 22) X dX1_puts_16 rfl ?_ ?_
    · refine vv_aload_n (pc := 22) X (kf := 0) (i := 0) rfl 1 rfl dX1_puts_22 ?_
      refine vv_getR (pc := 23) X (fun _ z => by cases List.mem_singleton.mp z; exact fl_X1_59_0) dX1_puts_23 (fun v1 => ?_)
      refine vv_aload_n (pc := 26) X (kf := 0) (i := 0) rfl 1 rfl dX1_puts_26 ?_
      refine vv_getI (pc := 27) X (fun _ z => by cases List.mem_singleton.mp z; exact fl_X1_124_0) dX1_puts_27 (fun v2 => ?_)
      refine vv_iload_n (pc := 30) X (kf := 3) (i := 3) rfl 0 rfl dX1_puts_30 ?_
      refine vv_i2b (pc := 31) X dX1_puts_31 ?_
      refine vv_bastore (pc := 32) X dX1_puts_32 (fun h3 => ?_)
      refine vv_aload_n (pc := 33) X (kf := 0) (i := 0) rfl 1 rfl dX1_puts_33 ?_
      refine vv_dup (pc := 34) X rfl dX1_puts_34 ?_
      refine vv_getI (pc := 35) X (fun _ z => by cases List.mem_singleton.mp z; exact fl_X1_124_0) dX1_puts_35 (fun v4 => ?_)
      refine vv_iconst (pc := 38) X dX1_puts_38 ?_
      refine vv_iadd (pc := 39) X dX1_puts_39 ?_
      refine vv_putI (pc := 40) (fin := false) X (fun _ z => by cases List.mem_singleton.mp z; exact fl_X1_124_0) (fun z => nomatch z) (fun z => nomatch z) dX1_puts_40 (fun h5 => ?_)
      exact vv_sub [1, 2, 3] (by rfl) (B_X1_puts_43 X r3 hr3 _ _ _ _)
    · refine vv_goto (pc := 19) (tgt := 43) X dX1_puts_19 rfl ?_
      exact vv_sub [1, 2, 3] (by rfl) (B_X1_puts_43 X r3 hr3 _ _ _ _)
theorem B_X1_puts_3 {M : hp_M} {G : va_G} {h0 : HP} (X : hp_X M G h0 "RenamedWords" "puts" cX1_puts 4 none [] 0 0) : ∀ (x0 : Option Nat) (x1 : Int) (x2 : Int) (h : HP), vv M G h0 4 (hp_End M G h0) jV h 3 [(0, LR x0), (1, LI x1), (2, LI x2)] [] (b_X1_puts_3 x0 x1 x2 h) := by
  unfold b_X1_puts_3
  generalize FU = n
  induction n with
  | zero => intro x0 x1 x2 h; exact vv_none
  | succ n ih => exact C_X1_puts_3 X _ ih
noncomputable def f_X1_puts (a0 : Nat) (a1 : Int) (h : HP) : Option ((Unit) × HP) :=
  b_X1_puts_3 (some a0) a1 24 h
theorem A_X1_puts {M : hp_M} {G : va_G} {h0 : HP} (X : hp_X M G h0 "RenamedWords" "puts" cX1_puts 4 none [] 0 0) (a0 : Nat) (a1 : Int) (h : HP) : vv M G h0 4 (hp_End M G h0) jV h 0 [(0, LR (some a0)), (1, LI a1)] [] (f_X1_puts a0 a1 h) := by
  unfold f_X1_puts
  refine vv_bipush (pc := 0) X (by decide) dX1_puts_0 ?_
  refine vv_istore_n (pc := 2) (lv' := [(2, LI 24), (0, LR (some a0)), (1, LI a1)]) X (kf := 2) (i := 2) rfl (by decide) rfl dX1_puts_2 ?_
  exact vv_sub [1, 2, 0] (by rfl) (B_X1_puts_3 X _ _ _ _)
theorem m_X1_puts {l : Launch} (hl : l.stackTraces = false) {G : va_G} (a0 : Nat) (a1 : Int) (h : HP) : ∀ r hf, f_X1_puts a0 a1 h = some (r, hf) → Ct l yX1_puts (ws_ yX1_puts cX1_puts 4 none) 0 0 G h [.ref a0, .int (iI a1)] (jV r) hf :=
  zz_ofW hl (by decide +kernel) (lv := [(0, LR (some a0)), (1, LI a1)]) (by simp [lv_args, lvL, lvV, zz_rfc, zz_rfs, zz_ci, zz_cr, zz_cj, zz_cf, zz_cd]) (by simp [lg_sl, zz_rfc, zz_ci, zz_cr, zz_cj, zz_cf, zz_cd]) (fun _ X => A_X1_puts X a0 a1 h)
-- X1_feed RenamedWords.feed(IIIII)I
noncomputable def f_X1_feed (a0 : Nat) (a1 : Int) (a2 : Int) (a3 : Int) (a4 : Int) (a5 : Int) (h : HP) : Option ((Int) × HP) :=
  (rdI h (some a0) [0] 5).bind fun v1 =>
  hb (f_X1_bytesIn a1 h) fun v2 h3 =>
  hb (f_X1_bytesIn a2 h3) fun v4 h5 =>
  hb (f_X1_bytesIn a3 h5) fun v6 h7 =>
  hb (f_X1_bytesIn a4 h7) fun v8 h9 =>
  hb (f_X1_bytesIn a5 h9) fun v10 h11 =>
  iLE (((((v1 + v2) + v4) + v6) + v8) + v10) 600
    ((rcv h11 (some a0) [0]).bind fun b14 =>
    hb (f_X1_puts b14 a1 h11) fun _ h13 =>
    (rcv h13 (some a0) [0]).bind fun b18 =>
    hb (f_X1_puts b18 a2 h13) fun _ h17 =>
    (rcv h17 (some a0) [0]).bind fun b22 =>
    hb (f_X1_puts b22 a3 h17) fun _ h21 =>
    (rcv h21 (some a0) [0]).bind fun b26 =>
    hb (f_X1_puts b26 a4 h21) fun _ h25 =>
    (rcv h25 (some a0) [0]).bind fun b30 =>
    hb (f_X1_puts b30 a5 h25) fun _ h29 =>
    (rdI h29 (some a0) [0] 5).bind fun v32 =>
    some (v32, h29))
    (some ((-1), h11))
theorem A_X1_feed {M : hp_M} {G : va_G} {h0 : HP} (X : hp_X M G h0 "RenamedWords" "feed" cX1_feed 6 (some .int) [] 2 56) (a0 : Nat) (a1 : Int) (a2 : Int) (a3 : Int) (a4 : Int) (a5 : Int) (h : HP) : vv M G h0 6 (hp_End M G h0) jI h 0 [(0, LR (some a0)), (1, LI a1), (2, LI a2), (3, LI a3), (4, LI a4), (5, LI a5)] [] (f_X1_feed a0 a1 a2 a3 a4 a5 h) := by
  unfold f_X1_feed
  refine vv_aload_n (pc := 0) X (kf := 0) (i := 0) rfl 0 rfl dX1_feed_0 ?_
  refine vv_getI (pc := 1) X (fun _ z => by cases List.mem_singleton.mp z; exact fl_X1_124_0) dX1_feed_1 (fun v1 => ?_)
  refine vv_iload_n (pc := 4) X (kf := 1) (i := 1) rfl 1 rfl dX1_feed_4 ?_
  refine vv_callI (pc := 5) (rest := [LI v1]) (by rfl) (fun r8 k8 e8 => zz_callS X (m_X1_bytesIn (hlM X) _ _ _ _ e8) q832 q833 q132 q834 nh_X1 rfl (by decide) (by decide) (Nat.le_of_ble_eq_true rfl) dX1_feed_5) (fun v2 h3 => ?_)
  refine vv_iadd (pc := 8) X dX1_feed_8 ?_
  refine vv_iload_n (pc := 9) X (kf := 2) (i := 2) rfl 2 rfl dX1_feed_9 ?_
  refine vv_callI (pc := 10) (rest := [LI (v1 + v2)]) (by rfl) (fun r8 k8 e8 => zz_callS X (m_X1_bytesIn (hlM X) _ _ _ _ e8) q832 q833 q132 q834 nh_X1 rfl (by decide) (by decide) (Nat.le_of_ble_eq_true rfl) dX1_feed_10) (fun v4 h5 => ?_)
  refine vv_iadd (pc := 13) X dX1_feed_13 ?_
  refine vv_iload_n (pc := 14) X (kf := 3) (i := 3) rfl 3 rfl dX1_feed_14 ?_
  refine vv_callI (pc := 15) (rest := [LI ((v1 + v2) + v4)]) (by rfl) (fun r8 k8 e8 => zz_callS X (m_X1_bytesIn (hlM X) _ _ _ _ e8) q832 q833 q132 q834 nh_X1 rfl (by decide) (by decide) (Nat.le_of_ble_eq_true rfl) dX1_feed_15) (fun v6 h7 => ?_)
  refine vv_iadd (pc := 18) X dX1_feed_18 ?_
  refine vv_iload (pc := 19) X 4 rfl dX1_feed_19 ?_
  refine vv_callI (pc := 21) (rest := [LI (((v1 + v2) + v4) + v6)]) (by rfl) (fun r8 k8 e8 => zz_callS X (m_X1_bytesIn (hlM X) _ _ _ _ e8) q832 q833 q132 q834 nh_X1 rfl (by decide) (by decide) (Nat.le_of_ble_eq_true rfl) dX1_feed_21) (fun v8 h9 => ?_)
  refine vv_iadd (pc := 24) X dX1_feed_24 ?_
  refine vv_iload (pc := 25) X 5 rfl dX1_feed_25 ?_
  refine vv_callI (pc := 27) (rest := [LI ((((v1 + v2) + v4) + v6) + v8)]) (by rfl) (fun r8 k8 e8 => zz_callS X (m_X1_bytesIn (hlM X) _ _ _ _ e8) q832 q833 q132 q834 nh_X1 rfl (by decide) (by decide) (Nat.le_of_ble_eq_true rfl) dX1_feed_27) (fun v10 h11 => ?_)
  refine vv_iadd (pc := 30) X dX1_feed_30 ?_
  refine vv_sipush (pc := 31) X (by decide) dX1_feed_31 ?_
  refine vv_icmp_le (pc := 34) (tgt := 39) X dX1_feed_34 rfl ?_ ?_
  · refine vv_aload_n (pc := 39) X (kf := 0) (i := 0) rfl 0 rfl dX1_feed_39 ?_
    refine vv_iload_n (pc := 40) X (kf := 1) (i := 1) rfl 1 rfl dX1_feed_40 ?_
    refine vv_rcv (fun b14 t9 c9 fs9 e15 g9 k9 => ?_)
    cases List.mem_singleton.mp k9
    refine vv_callV (pc := 41) (rest := []) (by rw [e15]; rfl) (fun r8 k8 e8 => zz_callV X (m_X1_puts (hlM X) _ _ _ _ _ e8) g9 rfl rfl q838 q840 qs1 q132 q841 nh_X1 rfl (by decide) (by decide) (Nat.le_of_ble_eq_true rfl) dX1_feed_41) (fun v12 h13 => ?_)
    refine vv_aload_n (pc := 44) X (kf := 0) (i := 0) rfl 0 rfl dX1_feed_44 ?_
    refine vv_iload_n (pc := 45) X (kf := 2) (i := 2) rfl 2 rfl dX1_feed_45 ?_
    refine vv_rcv (fun b18 t9 c9 fs9 e19 g9 k9 => ?_)
    cases List.mem_singleton.mp k9
    refine vv_callV (pc := 46) (rest := []) (by rw [e19]; rfl) (fun r8 k8 e8 => zz_callV X (m_X1_puts (hlM X) _ _ _ _ _ e8) g9 rfl rfl q838 q840 qs1 q132 q841 nh_X1 rfl (by decide) (by decide) (Nat.le_of_ble_eq_true rfl) dX1_feed_46) (fun v16 h17 => ?_)
    refine vv_aload_n (pc := 49) X (kf := 0) (i := 0) rfl 0 rfl dX1_feed_49 ?_
    refine vv_iload_n (pc := 50) X (kf := 3) (i := 3) rfl 3 rfl dX1_feed_50 ?_
    refine vv_rcv (fun b22 t9 c9 fs9 e23 g9 k9 => ?_)
    cases List.mem_singleton.mp k9
    refine vv_callV (pc := 51) (rest := []) (by rw [e23]; rfl) (fun r8 k8 e8 => zz_callV X (m_X1_puts (hlM X) _ _ _ _ _ e8) g9 rfl rfl q838 q840 qs1 q132 q841 nh_X1 rfl (by decide) (by decide) (Nat.le_of_ble_eq_true rfl) dX1_feed_51) (fun v20 h21 => ?_)
    refine vv_aload_n (pc := 54) X (kf := 0) (i := 0) rfl 0 rfl dX1_feed_54 ?_
    refine vv_iload (pc := 55) X 4 rfl dX1_feed_55 ?_
    refine vv_rcv (fun b26 t9 c9 fs9 e27 g9 k9 => ?_)
    cases List.mem_singleton.mp k9
    refine vv_callV (pc := 57) (rest := []) (by rw [e27]; rfl) (fun r8 k8 e8 => zz_callV X (m_X1_puts (hlM X) _ _ _ _ _ e8) g9 rfl rfl q838 q840 qs1 q132 q841 nh_X1 rfl (by decide) (by decide) (Nat.le_of_ble_eq_true rfl) dX1_feed_57) (fun v24 h25 => ?_)
    refine vv_aload_n (pc := 60) X (kf := 0) (i := 0) rfl 0 rfl dX1_feed_60 ?_
    refine vv_iload (pc := 61) X 5 rfl dX1_feed_61 ?_
    refine vv_rcv (fun b30 t9 c9 fs9 e31 g9 k9 => ?_)
    cases List.mem_singleton.mp k9
    refine vv_callV (pc := 63) (rest := []) (by rw [e31]; rfl) (fun r8 k8 e8 => zz_callV X (m_X1_puts (hlM X) _ _ _ _ _ e8) g9 rfl rfl q838 q840 qs1 q132 q841 nh_X1 rfl (by decide) (by decide) (Nat.le_of_ble_eq_true rfl) dX1_feed_63) (fun v28 h29 => ?_)
    refine vv_aload_n (pc := 66) X (kf := 0) (i := 0) rfl 0 rfl dX1_feed_66 ?_
    refine vv_getI (pc := 67) X (fun _ z => by cases List.mem_singleton.mp z; exact fl_X1_124_0) dX1_feed_67 (fun v32 => ?_)
    exact vv_iretI X rfl rfl dX1_feed_70
  · refine vv_iconst (pc := 37) X dX1_feed_37 ?_
    exact vv_iretI X rfl rfl dX1_feed_38
theorem m_X1_feed {l : Launch} (hl : l.stackTraces = false) {G : va_G} (a0 : Nat) (a1 : Int) (a2 : Int) (a3 : Int) (a4 : Int) (a5 : Int) (h : HP) : ∀ r hf, f_X1_feed a0 a1 a2 a3 a4 a5 h = some (r, hf) → Ct l yX1_feed (ws_ yX1_feed cX1_feed 6 (some .int)) 2 56 G h [.ref a0, .int (iI a1), .int (iI a2), .int (iI a3), .int (iI a4), .int (iI a5)] (jI r) hf :=
  zz_ofW hl (by decide +kernel) (lv := [(0, LR (some a0)), (1, LI a1), (2, LI a2), (3, LI a3), (4, LI a4), (5, LI a5)]) (by simp [lv_args, lvL, lvV, zz_rfc, zz_rfs, zz_ci, zz_cr, zz_cj, zz_cf, zz_cd]) (by simp [lg_sl, zz_rfc, zz_ci, zz_cr, zz_cj, zz_cf, zz_cd]) (fun _ X => A_X1_feed X a0 a1 a2 a3 a4 a5 h)
-- X9_one RenamedWordsModel.one(Z)I
noncomputable def b_X9_one_9 (s0 : Int) (h : HP) : Option ((Int) × HP) :=
  some (s0, h)
theorem B_X9_one_9 {M : hp_M} {G : va_G} {h0 : HP} (X : hp_X M G h0 "RenamedWordsModel" "one" cX9_one 1 (some .int) [] 0 0) (s0 : Int) (h : HP) : vv M G h0 1 (hp_End M G h0) jI h 9 [] [LI s0] (b_X9_one_9 s0 h) := by
  unfold b_X9_one_9
  exact vv_iretI X rfl rfl dX9_one_9
noncomputable def f_X9_one (a1 : Int) (h : HP) : Option ((Int) × HP) :=
  iEQ a1 0
    (b_X9_one_9 0 h)
    (b_X9_one_9 1 h)
theorem A_X9_one {M : hp_M} {G : va_G} {h0 : HP} (X : hp_X M G h0 "RenamedWordsModel" "one" cX9_one 1 (some .int) [] 0 0) (a1 : Int) (h : HP) : vv M G h0 1 (hp_End M G h0) jI h 0 [(0, LI a1)] [] (f_X9_one a1 h) := by
  unfold f_X9_one
  refine vv_iload_n (pc := 0) X (kf := 0) (i := 0) rfl 0 rfl dX9_one_0 ?_
  refine vv_if_eq (pc := 1) (tgt := 8) X dX9_one_1 rfl ?_ ?_
  · refine vv_iconst (pc := 8) X dX9_one_8 ?_
    exact vv_sub [] (by rfl) (B_X9_one_9 X _ _)
  · refine vv_iconst (pc := 4) X dX9_one_4 ?_
    refine vv_goto (pc := 5) (tgt := 9) X dX9_one_5 rfl ?_
    exact vv_sub [] (by rfl) (B_X9_one_9 X _ _)
theorem m_X9_one {l : Launch} (hl : l.stackTraces = false) {G : va_G} (a1 : Int) (h : HP) : ∀ r hf, f_X9_one a1 h = some (r, hf) → Ct l yX9_one (ws_ yX9_one cX9_one 1 (some .int)) 0 0 G h [.int (iI a1)] (jI r) hf :=
  zz_ofW hl (by decide +kernel) (lv := [(0, LI a1)]) (by simp [lv_args, lvL, lvV, zz_rfc, zz_rfs, zz_ci, zz_cr, zz_cj, zz_cf, zz_cd]) (by simp [lg_sl, zz_rfc, zz_ci, zz_cr, zz_cj, zz_cf, zz_cd]) (fun _ X => A_X9_one X a1 h)
-- X9_bytesIn RenamedWordsModel.bytesIn(I)I
noncomputable def b_X9_bytesIn_72 (s0 : Int) (s1 : Int) (h : HP) : Option ((Int) × HP) :=
  hb (f_X9_one s0 h) fun v7 h8 =>
  some ((s1 + v7), h8)
theorem B_X9_bytesIn_72 {M : hp_M} {G : va_G} {h0 : HP} (X : hp_X M G h0 "RenamedWordsModel" "bytesIn" cX9_bytesIn 1 (some .int) [] 1 28) (s0 : Int) (s1 : Int) (h : HP) : vv M G h0 1 (hp_End M G h0) jI h 72 [] [LI s0, LI s1] (b_X9_bytesIn_72 s0 s1 h) := by
  unfold b_X9_bytesIn_72
  refine vv_callI (pc := 72) (rest := [LI s1]) (by rfl) (fun r8 k8 e8 => zz_callS X (m_X9_one (hlM X) _ _ _ _ e8) q3559 q3560 q164 q3561 nh_X9 rfl (by decide) (by decide) (Nat.le_of_ble_eq_true rfl) dX9_bytesIn_72) (fun v7 h8 => ?_)
  refine vv_iadd (pc := 75) X dX9_bytesIn_75 ?_
  exact vv_iretI X rfl rfl dX9_bytesIn_76
noncomputable def b_X9_bytesIn_55 (x0 : Int) (s0 : Int) (s1 : Int) (h : HP) : Option ((Int) × HP) :=
  hb (f_X9_one s0 h) fun v5 h6 =>
  iLE (iAnd x0 255) 0
    (b_X9_bytesIn_72 0 (s1 + v5) h6)
    (b_X9_bytesIn_72 1 (s1 + v5) h6)
theorem B_X9_bytesIn_55 {M : hp_M} {G : va_G} {h0 : HP} (X : hp_X M G h0 "RenamedWordsModel" "bytesIn" cX9_bytesIn 1 (some .int) [] 1 28) (x0 : Int) (s0 : Int) (s1 : Int) (h : HP) : vv M G h0 1 (hp_End M G h0) jI h 55 [(0, LI x0)] [LI s0, LI s1] (b_X9_bytesIn_55 x0 s0 s1 h) := by
  unfold b_X9_bytesIn_55
  refine vv_callI (pc := 55) (rest := [LI s1]) (by rfl) (fun r8 k8 e8 => zz_callS X (m_X9_one (hlM X) _ _ _ _ e8) q3559 q3560 q164 q3561 nh_X9 rfl (by decide) (by decide) (Nat.le_of_ble_eq_true rfl) dX9_bytesIn_55) (fun v5 h6 => ?_)
  refine vv_iadd (pc := 58) X dX9_bytesIn_58 ?_
  refine vv_iload_n (pc := 59) X (kf := 0) (i := 0) rfl 0 rfl dX9_bytesIn_59 ?_
  refine vv_sipush (pc := 60) X (by decide) dX9_bytesIn_60 ?_
  refine vv_iand (pc := 63) X dX9_bytesIn_63 ?_
  refine vv_if_le (pc := 64) (tgt := 71) X dX9_bytesIn_64 rfl ?_ ?_
  · refine vv_iconst (pc := 71) X dX9_bytesIn_71 ?_
    exact vv_sub [] (by rfl) (B_X9_bytesIn_72 X _ _ _)
  · refine vv_iconst (pc := 67) X dX9_bytesIn_67 ?_
    refine vv_goto (pc := 68) (tgt := 72) X dX9_bytesIn_68 rfl ?_
    exact vv_sub [] (by rfl) (B_X9_bytesIn_72 X _ _ _)
noncomputable def b_X9_bytesIn_35 (x0 : Int) (s0 : Int) (s1 : Int) (h : HP) : Option ((Int) × HP) :=
  hb (f_X9_one s0 h) fun v3 h4 =>
  iLE (iAnd (iShr x0 8) 255) 0
    (b_X9_bytesIn_55 x0 0 (s1 + v3) h4)
    (b_X9_bytesIn_55 x0 1 (s1 + v3) h4)
theorem B_X9_bytesIn_35 {M : hp_M} {G : va_G} {h0 : HP} (X : hp_X M G h0 "RenamedWordsModel" "bytesIn" cX9_bytesIn 1 (some .int) [] 1 28) (x0 : Int) (s0 : Int) (s1 : Int) (h : HP) : vv M G h0 1 (hp_End M G h0) jI h 35 [(0, LI x0)] [LI s0, LI s1] (b_X9_bytesIn_35 x0 s0 s1 h) := by
  unfold b_X9_bytesIn_35
  refine vv_callI (pc := 35) (rest := [LI s1]) (by rfl) (fun r8 k8 e8 => zz_callS X (m_X9_one (hlM X) _ _ _ _ e8) q3559 q3560 q164 q3561 nh_X9 rfl (by decide) (by decide) (Nat.le_of_ble_eq_true rfl) dX9_bytesIn_35) (fun v3 h4 => ?_)
  refine vv_iadd (pc := 38) X dX9_bytesIn_38 ?_
  refine vv_iload_n (pc := 39) X (kf := 0) (i := 0) rfl 0 rfl dX9_bytesIn_39 ?_
  refine vv_bipush (pc := 40) X (by decide) dX9_bytesIn_40 ?_
  refine vv_ishr (pc := 42) X dX9_bytesIn_42 ?_
  refine vv_sipush (pc := 43) X (by decide) dX9_bytesIn_43 ?_
  refine vv_iand (pc := 46) X dX9_bytesIn_46 ?_
  refine vv_if_le (pc := 47) (tgt := 54) X dX9_bytesIn_47 rfl ?_ ?_
  · refine vv_iconst (pc := 54) X dX9_bytesIn_54 ?_
    exact B_X9_bytesIn_55 X _ _ _ _
  · refine vv_iconst (pc := 50) X dX9_bytesIn_50 ?_
    refine vv_goto (pc := 51) (tgt := 55) X dX9_bytesIn_51 rfl ?_
    exact B_X9_bytesIn_55 X _ _ _ _
noncomputable def b_X9_bytesIn_16 (x0 : Int) (s0 : Int) (h : HP) : Option ((Int) × HP) :=
  hb (f_X9_one s0 h) fun v1 h2 =>
  iLE (iAnd (iShr x0 16) 255) 0
    (b_X9_bytesIn_35 x0 0 v1 h2)
    (b_X9_bytesIn_35 x0 1 v1 h2)
theorem B_X9_bytesIn_16 {M : hp_M} {G : va_G} {h0 : HP} (X : hp_X M G h0 "RenamedWordsModel" "bytesIn" cX9_bytesIn 1 (some .int) [] 1 28) (x0 : Int) (s0 : Int) (h : HP) : vv M G h0 1 (hp_End M G h0) jI h 16 [(0, LI x0)] [LI s0] (b_X9_bytesIn_16 x0 s0 h) := by
  unfold b_X9_bytesIn_16
  refine vv_callI (pc := 16) (rest := []) (by rfl) (fun r8 k8 e8 => zz_callS X (m_X9_one (hlM X) _ _ _ _ e8) q3559 q3560 q164 q3561 nh_X9 rfl (by decide) (by decide) (Nat.le_of_ble_eq_true rfl) dX9_bytesIn_16) (fun v1 h2 => ?_)
  refine vv_iload_n (pc := 19) X (kf := 0) (i := 0) rfl 0 rfl dX9_bytesIn_19 ?_
  refine vv_bipush (pc := 20) X (by decide) dX9_bytesIn_20 ?_
  refine vv_ishr (pc := 22) X dX9_bytesIn_22 ?_
  refine vv_sipush (pc := 23) X (by decide) dX9_bytesIn_23 ?_
  refine vv_iand (pc := 26) X dX9_bytesIn_26 ?_
  refine vv_if_le (pc := 27) (tgt := 34) X dX9_bytesIn_27 rfl ?_ ?_
  · refine vv_iconst (pc := 34) X dX9_bytesIn_34 ?_
    exact B_X9_bytesIn_35 X _ _ _ _
  · refine vv_iconst (pc := 30) X dX9_bytesIn_30 ?_
    refine vv_goto (pc := 31) (tgt := 35) X dX9_bytesIn_31 rfl ?_
    exact B_X9_bytesIn_35 X _ _ _ _
noncomputable def f_X9_bytesIn (a1 : Int) (h : HP) : Option ((Int) × HP) :=
  iLE (iAnd (iShr a1 24) 255) 0
    (b_X9_bytesIn_16 a1 0 h)
    (b_X9_bytesIn_16 a1 1 h)
theorem A_X9_bytesIn {M : hp_M} {G : va_G} {h0 : HP} (X : hp_X M G h0 "RenamedWordsModel" "bytesIn" cX9_bytesIn 1 (some .int) [] 1 28) (a1 : Int) (h : HP) : vv M G h0 1 (hp_End M G h0) jI h 0 [(0, LI a1)] [] (f_X9_bytesIn a1 h) := by
  unfold f_X9_bytesIn
  refine vv_iload_n (pc := 0) X (kf := 0) (i := 0) rfl 0 rfl dX9_bytesIn_0 ?_
  refine vv_bipush (pc := 1) X (by decide) dX9_bytesIn_1 ?_
  refine vv_ishr (pc := 3) X dX9_bytesIn_3 ?_
  refine vv_sipush (pc := 4) X (by decide) dX9_bytesIn_4 ?_
  refine vv_iand (pc := 7) X dX9_bytesIn_7 ?_
  refine vv_if_le (pc := 8) (tgt := 15) X dX9_bytesIn_8 rfl ?_ ?_
  · refine vv_iconst (pc := 15) X dX9_bytesIn_15 ?_
    exact B_X9_bytesIn_16 X _ _ _
  · refine vv_iconst (pc := 11) X dX9_bytesIn_11 ?_
    refine vv_goto (pc := 12) (tgt := 16) X dX9_bytesIn_12 rfl ?_
    exact B_X9_bytesIn_16 X _ _ _
theorem m_X9_bytesIn {l : Launch} (hl : l.stackTraces = false) {G : va_G} (a1 : Int) (h : HP) : ∀ r hf, f_X9_bytesIn a1 h = some (r, hf) → Ct l yX9_bytesIn (ws_ yX9_bytesIn cX9_bytesIn 1 (some .int)) 1 28 G h [.int (iI a1)] (jI r) hf :=
  zz_ofW hl (by decide +kernel) (lv := [(0, LI a1)]) (by simp [lv_args, lvL, lvV, zz_rfc, zz_rfs, zz_ci, zz_cr, zz_cj, zz_cf, zz_cd]) (by simp [lg_sl, zz_rfc, zz_ci, zz_cr, zz_cj, zz_cf, zz_cd]) (fun _ X => A_X9_bytesIn X a1 h)
-- X9_feeds RenamedWordsModel.feeds(I)V
noncomputable def b_X9_feeds_42 (r3 : Option Nat → Int → Int → HP → Option ((Unit) × HP)) (x0 : Option Nat) (x1 : Int) (x2 : Int) (h : HP) : Option ((Unit) × HP) :=
  r3 x0 x1 (x2 + (-8)) h
theorem B_X9_feeds_42 {M : hp_M} {G : va_G} {h0 : HP} (X : hp_X M G h0 "RenamedWordsModel" "feeds" cX9_feeds 4 none [] 0 0) (r3 : Option Nat → Int → Int → HP → Option ((Unit) × HP)) (hr3 : ∀ (y0 : Option Nat) (y1 : Int) (y2 : Int) (h : HP), vv M G h0 4 (hp_End M G h0) jV h 3 [(0, LR y0), (1, LI y1), (2, LI y2)] [] (r3 y0 y1 y2 h)) (x0 : Option Nat) (x1 : Int) (x2 : Int) (h : HP) : vv M G h0 4 (hp_End M G h0) jV h 42 [(0, LR x0), (1, LI x1), (2, LI x2)] [] (b_X9_feeds_42 r3 x0 x1 x2 h) := by
  unfold b_X9_feeds_42
  refine vv_iinc (pc := 42) (lv' := [(2, LI (x2 + (-8))), (0, LR x0), (1, LI x1)]) X 2 rfl (by decide) rfl dX9_feeds_42 ?_
  refine vv_goto (pc := 45) (tgt := 3) X dX9_feeds_45 rfl ?_
  exact vv_sub [1, 2, 0] (by rfl) (hr3 _ _ _ _)
noncomputable def c_X9_feeds_3 (r3 : Option Nat → Int → Int → HP → Option ((Unit) × HP)) (x0 : Option Nat) (x1 : Int) (x2 : Int) (h : HP) : Option ((Unit) × HP) :=
  iLT x2 0
    (some ((), h))
    (iEQ (iAnd (iShr x1 x2) 255) 0
      (b_X9_feeds_42 r3 x0 x1 x2 h)
      ((rdR h x0 [7] 11).bind fun v1 =>
      (rdI h x0 [7] 12).bind fun v2 =>
      (astI h .int v1 v2 (iAnd (iShr x1 x2) 255)).bind fun h3 =>
      (rdI h3 x0 [7] 12).bind fun v4 =>
      (wrI h3 x0 [7] 12 (v4 + 1)).bind fun h5 =>
      b_X9_feeds_42 r3 x0 x1 x2 h5))
noncomputable def b_X9_feeds_3 : Option Nat → Int → Int → HP → Option ((Unit) × HP) := fx (fun _ _ _ _ => none) (c_X9_feeds_3) FU
theorem C_X9_feeds_3 {M : hp_M} {G : va_G} {h0 : HP} (X : hp_X M G h0 "RenamedWordsModel" "feeds" cX9_feeds 4 none [] 0 0) (r3 : Option Nat → Int → Int → HP → Option ((Unit) × HP)) (hr3 : ∀ (y0 : Option Nat) (y1 : Int) (y2 : Int) (h : HP), vv M G h0 4 (hp_End M G h0) jV h 3 [(0, LR y0), (1, LI y1), (2, LI y2)] [] (r3 y0 y1 y2 h)) (x0 : Option Nat) (x1 : Int) (x2 : Int) (h : HP) : vv M G h0 4 (hp_End M G h0) jV h 3 [(0, LR x0), (1, LI x1), (2, LI x2)] [] (c_X9_feeds_3 r3 x0 x1 x2 h) := by
  unfold c_X9_feeds_3
  refine vv_iload_n (pc := 3) X (kf := 2) (i := 2) rfl 2 rfl dX9_feeds_3 ?_
  refine vv_if_lt (pc := 4) (tgt := 48) X dX9_feeds_4 rfl ?_ ?_
  · exact vv_vreturn X rfl rfl dX9_feeds_48
  · refine vv_iload_n (pc := 7) X (kf := 1) (i := 1) rfl 1 rfl dX9_feeds_7 ?_
    refine vv_iload_n (pc := 8) X (kf := 2) (i := 2) rfl 2 rfl dX9_feeds_8 ?_
    refine vv_ishr (pc := 9) X dX9_feeds_9 ?_
    refine vv_sipush (pc := 10) X (by decide) dX9_feeds_10 ?_
    refine vv_iand (pc := 13) X dX9_feeds_13 ?_
    refine vv_istore_n (pc := 14) (lv' := [(3, LI (iAnd (iShr x1 x2) 255)), (0, LR x0), (1, LI x1), (2, LI x2)]) X (kf := 3) (i := 3) rfl (by decide) rfl dX9_feeds_14 ?_
    refine vv_iload_n (pc := 15) X (kf := 3) (i := 3) rfl 0 rfl dX9_feeds_15 ?_
    refine vv_if_ne (pc := 16) (tgt := 22) X dX9_feeds_16 rfl ?_ ?_
    · refine vv_aload_n (pc := 22) X (kf := 0) (i := 0) rfl 1 rfl dX9_feeds_22 ?_
      refine vv_getR (pc := 23) X (fun _ z => by cases List.mem_singleton.mp z; exact fl_X9_38_7) dX9_feeds_23 (fun v1 => ?_)
      refine vv_aload_n (pc := 26) X (kf := 0) (i := 0) rfl 1 rfl dX9_feeds_26 ?_
      refine vv_getI (pc := 27) X (fun _ z => by cases List.mem_singleton.mp z; exact fl_X9_148_7) dX9_feeds_27 (fun v2 => ?_)
      refine vv_iload_n (pc := 30) X (kf := 3) (i := 3) rfl 0 rfl dX9_feeds_30 ?_
      refine vv_iastore (pc := 31) X dX9_feeds_31 (fun h3 => ?_)
      refine vv_aload_n (pc := 32) X (kf := 0) (i := 0) rfl 1 rfl dX9_feeds_32 ?_
      refine vv_dup (pc := 33) X rfl dX9_feeds_33 ?_
      refine vv_getI (pc := 34) X (fun _ z => by cases List.mem_singleton.mp z; exact fl_X9_148_7) dX9_feeds_34 (fun v4 => ?_)
      refine vv_iconst (pc := 37) X dX9_feeds_37 ?_
      refine vv_iadd (pc := 38) X dX9_feeds_38 ?_
      refine vv_putI (pc := 39) (fin := false) X (fun _ z => by cases List.mem_singleton.mp z; exact fl_X9_148_7) (fun z => nomatch z) (fun z => nomatch z) dX9_feeds_39 (fun h5 => ?_)
      exact vv_sub [1, 2, 3] (by rfl) (B_X9_feeds_42 X r3 hr3 _ _ _ _)
    · refine vv_goto (pc := 19) (tgt := 42) X dX9_feeds_19 rfl ?_
      exact vv_sub [1, 2, 3] (by rfl) (B_X9_feeds_42 X r3 hr3 _ _ _ _)
theorem B_X9_feeds_3 {M : hp_M} {G : va_G} {h0 : HP} (X : hp_X M G h0 "RenamedWordsModel" "feeds" cX9_feeds 4 none [] 0 0) : ∀ (x0 : Option Nat) (x1 : Int) (x2 : Int) (h : HP), vv M G h0 4 (hp_End M G h0) jV h 3 [(0, LR x0), (1, LI x1), (2, LI x2)] [] (b_X9_feeds_3 x0 x1 x2 h) := by
  unfold b_X9_feeds_3
  generalize FU = n
  induction n with
  | zero => intro x0 x1 x2 h; exact vv_none
  | succ n ih => exact C_X9_feeds_3 X _ ih
noncomputable def f_X9_feeds (a0 : Nat) (a1 : Int) (h : HP) : Option ((Unit) × HP) :=
  b_X9_feeds_3 (some a0) a1 24 h
theorem A_X9_feeds {M : hp_M} {G : va_G} {h0 : HP} (X : hp_X M G h0 "RenamedWordsModel" "feeds" cX9_feeds 4 none [] 0 0) (a0 : Nat) (a1 : Int) (h : HP) : vv M G h0 4 (hp_End M G h0) jV h 0 [(0, LR (some a0)), (1, LI a1)] [] (f_X9_feeds a0 a1 h) := by
  unfold f_X9_feeds
  refine vv_bipush (pc := 0) X (by decide) dX9_feeds_0 ?_
  refine vv_istore_n (pc := 2) (lv' := [(2, LI 24), (0, LR (some a0)), (1, LI a1)]) X (kf := 2) (i := 2) rfl (by decide) rfl dX9_feeds_2 ?_
  exact vv_sub [1, 2, 0] (by rfl) (B_X9_feeds_3 X _ _ _ _)
theorem m_X9_feeds {l : Launch} (hl : l.stackTraces = false) {G : va_G} (a0 : Nat) (a1 : Int) (h : HP) : ∀ r hf, f_X9_feeds a0 a1 h = some (r, hf) → Ct l yX9_feeds (ws_ yX9_feeds cX9_feeds 4 none) 0 0 G h [.ref a0, .int (iI a1)] (jV r) hf :=
  zz_ofW hl (by decide +kernel) (lv := [(0, LR (some a0)), (1, LI a1)]) (by simp [lv_args, lvL, lvV, zz_rfc, zz_rfs, zz_ci, zz_cr, zz_cj, zz_cf, zz_cd]) (by simp [lg_sl, zz_rfc, zz_ci, zz_cr, zz_cj, zz_cf, zz_cd]) (fun _ X => A_X9_feeds X a0 a1 h)
-- X9_feed RenamedWordsModel.feed(IIIII)I
noncomputable def f_X9_feed (a0 : Nat) (a1 : Int) (a2 : Int) (a3 : Int) (a4 : Int) (a5 : Int) (h : HP) : Option ((Int) × HP) :=
  (wrI h (some a0) [7] 7 0).bind fun h1 =>
  (rdI h1 (some a0) [7] 12).bind fun v2 =>
  hb (f_X9_bytesIn a1 h1) fun v3 h4 =>
  hb (f_X9_bytesIn a2 h4) fun v5 h6 =>
  hb (f_X9_bytesIn a3 h6) fun v7 h8 =>
  hb (f_X9_bytesIn a4 h8) fun v9 h10 =>
  hb (f_X9_bytesIn a5 h10) fun v11 h12 =>
  iLE (((((v2 + v3) + v5) + v7) + v9) + v11) 600
    ((rcv h12 (some a0) [7]).bind fun b15 =>
    hb (f_X9_feeds b15 a1 h12) fun _ h14 =>
    (rcv h14 (some a0) [7]).bind fun b19 =>
    hb (f_X9_feeds b19 a2 h14) fun _ h18 =>
    (rcv h18 (some a0) [7]).bind fun b23 =>
    hb (f_X9_feeds b23 a3 h18) fun _ h22 =>
    (rcv h22 (some a0) [7]).bind fun b27 =>
    hb (f_X9_feeds b27 a4 h22) fun _ h26 =>
    (rcv h26 (some a0) [7]).bind fun b31 =>
    hb (f_X9_feeds b31 a5 h26) fun _ h30 =>
    (rdI h30 (some a0) [7] 12).bind fun v33 =>
    some (v33, h30))
    (some ((-1), h12))
theorem A_X9_feed {M : hp_M} {G : va_G} {h0 : HP} (X : hp_X M G h0 "RenamedWordsModel" "feed" cX9_feed 6 (some .int) [] 2 56) (a0 : Nat) (a1 : Int) (a2 : Int) (a3 : Int) (a4 : Int) (a5 : Int) (h : HP) : vv M G h0 6 (hp_End M G h0) jI h 0 [(0, LR (some a0)), (1, LI a1), (2, LI a2), (3, LI a3), (4, LI a4), (5, LI a5)] [] (f_X9_feed a0 a1 a2 a3 a4 a5 h) := by
  unfold f_X9_feed
  refine vv_aload_n (pc := 0) X (kf := 0) (i := 0) rfl 0 rfl dX9_feed_0 ?_
  refine vv_iconst (pc := 1) X dX9_feed_1 ?_
  refine vv_putI (pc := 2) (fin := false) X (fun _ z => by cases List.mem_singleton.mp z; exact fl_X9_69_7) (fun z => nomatch z) (fun z => nomatch z) dX9_feed_2 (fun h1 => ?_)
  refine vv_aload_n (pc := 5) X (kf := 0) (i := 0) rfl 0 rfl dX9_feed_5 ?_
  refine vv_getI (pc := 6) X (fun _ z => by cases List.mem_singleton.mp z; exact fl_X9_148_7) dX9_feed_6 (fun v2 => ?_)
  refine vv_iload_n (pc := 9) X (kf := 1) (i := 1) rfl 1 rfl dX9_feed_9 ?_
  refine vv_callI (pc := 10) (rest := [LI v2]) (by rfl) (fun r8 k8 e8 => zz_callS X (m_X9_bytesIn (hlM X) _ _ _ _ e8) q3556 q3557 q164 q3558 nh_X9 rfl (by decide) (by decide) (Nat.le_of_ble_eq_true rfl) dX9_feed_10) (fun v3 h4 => ?_)
  refine vv_iadd (pc := 13) X dX9_feed_13 ?_
  refine vv_iload_n (pc := 14) X (kf := 2) (i := 2) rfl 2 rfl dX9_feed_14 ?_
  refine vv_callI (pc := 15) (rest := [LI (v2 + v3)]) (by rfl) (fun r8 k8 e8 => zz_callS X (m_X9_bytesIn (hlM X) _ _ _ _ e8) q3556 q3557 q164 q3558 nh_X9 rfl (by decide) (by decide) (Nat.le_of_ble_eq_true rfl) dX9_feed_15) (fun v5 h6 => ?_)
  refine vv_iadd (pc := 18) X dX9_feed_18 ?_
  refine vv_iload_n (pc := 19) X (kf := 3) (i := 3) rfl 3 rfl dX9_feed_19 ?_
  refine vv_callI (pc := 20) (rest := [LI ((v2 + v3) + v5)]) (by rfl) (fun r8 k8 e8 => zz_callS X (m_X9_bytesIn (hlM X) _ _ _ _ e8) q3556 q3557 q164 q3558 nh_X9 rfl (by decide) (by decide) (Nat.le_of_ble_eq_true rfl) dX9_feed_20) (fun v7 h8 => ?_)
  refine vv_iadd (pc := 23) X dX9_feed_23 ?_
  refine vv_iload (pc := 24) X 4 rfl dX9_feed_24 ?_
  refine vv_callI (pc := 26) (rest := [LI (((v2 + v3) + v5) + v7)]) (by rfl) (fun r8 k8 e8 => zz_callS X (m_X9_bytesIn (hlM X) _ _ _ _ e8) q3556 q3557 q164 q3558 nh_X9 rfl (by decide) (by decide) (Nat.le_of_ble_eq_true rfl) dX9_feed_26) (fun v9 h10 => ?_)
  refine vv_iadd (pc := 29) X dX9_feed_29 ?_
  refine vv_iload (pc := 30) X 5 rfl dX9_feed_30 ?_
  refine vv_callI (pc := 32) (rest := [LI ((((v2 + v3) + v5) + v7) + v9)]) (by rfl) (fun r8 k8 e8 => zz_callS X (m_X9_bytesIn (hlM X) _ _ _ _ e8) q3556 q3557 q164 q3558 nh_X9 rfl (by decide) (by decide) (Nat.le_of_ble_eq_true rfl) dX9_feed_32) (fun v11 h12 => ?_)
  refine vv_iadd (pc := 35) X dX9_feed_35 ?_
  refine vv_sipush (pc := 36) X (by decide) dX9_feed_36 ?_
  refine vv_icmp_le (pc := 39) (tgt := 44) X dX9_feed_39 rfl ?_ ?_
  · refine vv_aload_n (pc := 44) X (kf := 0) (i := 0) rfl 0 rfl dX9_feed_44 ?_
    refine vv_iload_n (pc := 45) X (kf := 1) (i := 1) rfl 1 rfl dX9_feed_45 ?_
    refine vv_rcv (fun b15 t9 c9 fs9 e16 g9 k9 => ?_)
    cases List.mem_singleton.mp k9
    refine vv_callV (pc := 46) (rest := []) (by rw [e16]; rfl) (fun r8 k8 e8 => zz_callV X (m_X9_feeds (hlM X) _ _ _ _ _ e8) g9 rfl rfl q3562 q3564 qs50 q164 q3565 nh_X9 rfl (by decide) (by decide) (Nat.le_of_ble_eq_true rfl) dX9_feed_46) (fun v13 h14 => ?_)
    refine vv_aload_n (pc := 49) X (kf := 0) (i := 0) rfl 0 rfl dX9_feed_49 ?_
    refine vv_iload_n (pc := 50) X (kf := 2) (i := 2) rfl 2 rfl dX9_feed_50 ?_
    refine vv_rcv (fun b19 t9 c9 fs9 e20 g9 k9 => ?_)
    cases List.mem_singleton.mp k9
    refine vv_callV (pc := 51) (rest := []) (by rw [e20]; rfl) (fun r8 k8 e8 => zz_callV X (m_X9_feeds (hlM X) _ _ _ _ _ e8) g9 rfl rfl q3562 q3564 qs50 q164 q3565 nh_X9 rfl (by decide) (by decide) (Nat.le_of_ble_eq_true rfl) dX9_feed_51) (fun v17 h18 => ?_)
    refine vv_aload_n (pc := 54) X (kf := 0) (i := 0) rfl 0 rfl dX9_feed_54 ?_
    refine vv_iload_n (pc := 55) X (kf := 3) (i := 3) rfl 3 rfl dX9_feed_55 ?_
    refine vv_rcv (fun b23 t9 c9 fs9 e24 g9 k9 => ?_)
    cases List.mem_singleton.mp k9
    refine vv_callV (pc := 56) (rest := []) (by rw [e24]; rfl) (fun r8 k8 e8 => zz_callV X (m_X9_feeds (hlM X) _ _ _ _ _ e8) g9 rfl rfl q3562 q3564 qs50 q164 q3565 nh_X9 rfl (by decide) (by decide) (Nat.le_of_ble_eq_true rfl) dX9_feed_56) (fun v21 h22 => ?_)
    refine vv_aload_n (pc := 59) X (kf := 0) (i := 0) rfl 0 rfl dX9_feed_59 ?_
    refine vv_iload (pc := 60) X 4 rfl dX9_feed_60 ?_
    refine vv_rcv (fun b27 t9 c9 fs9 e28 g9 k9 => ?_)
    cases List.mem_singleton.mp k9
    refine vv_callV (pc := 62) (rest := []) (by rw [e28]; rfl) (fun r8 k8 e8 => zz_callV X (m_X9_feeds (hlM X) _ _ _ _ _ e8) g9 rfl rfl q3562 q3564 qs50 q164 q3565 nh_X9 rfl (by decide) (by decide) (Nat.le_of_ble_eq_true rfl) dX9_feed_62) (fun v25 h26 => ?_)
    refine vv_aload_n (pc := 65) X (kf := 0) (i := 0) rfl 0 rfl dX9_feed_65 ?_
    refine vv_iload (pc := 66) X 5 rfl dX9_feed_66 ?_
    refine vv_rcv (fun b31 t9 c9 fs9 e32 g9 k9 => ?_)
    cases List.mem_singleton.mp k9
    refine vv_callV (pc := 68) (rest := []) (by rw [e32]; rfl) (fun r8 k8 e8 => zz_callV X (m_X9_feeds (hlM X) _ _ _ _ _ e8) g9 rfl rfl q3562 q3564 qs50 q164 q3565 nh_X9 rfl (by decide) (by decide) (Nat.le_of_ble_eq_true rfl) dX9_feed_68) (fun v29 h30 => ?_)
    refine vv_aload_n (pc := 71) X (kf := 0) (i := 0) rfl 0 rfl dX9_feed_71 ?_
    refine vv_getI (pc := 72) X (fun _ z => by cases List.mem_singleton.mp z; exact fl_X9_148_7) dX9_feed_72 (fun v33 => ?_)
    exact vv_iretI X rfl rfl dX9_feed_75
  · refine vv_iconst (pc := 42) X dX9_feed_42 ?_
    exact vv_iretI X rfl rfl dX9_feed_43
theorem m_X9_feed {l : Launch} (hl : l.stackTraces = false) {G : va_G} (a0 : Nat) (a1 : Int) (a2 : Int) (a3 : Int) (a4 : Int) (a5 : Int) (h : HP) : ∀ r hf, f_X9_feed a0 a1 a2 a3 a4 a5 h = some (r, hf) → Ct l yX9_feed (ws_ yX9_feed cX9_feed 6 (some .int)) 2 56 G h [.ref a0, .int (iI a1), .int (iI a2), .int (iI a3), .int (iI a4), .int (iI a5)] (jI r) hf :=
  zz_ofW hl (by decide +kernel) (lv := [(0, LR (some a0)), (1, LI a1), (2, LI a2), (3, LI a3), (4, LI a4), (5, LI a5)]) (by simp [lv_args, lvL, lvV, zz_rfc, zz_rfs, zz_ci, zz_cr, zz_cj, zz_cf, zz_cd]) (by simp [lg_sl, zz_rfc, zz_ci, zz_cr, zz_cj, zz_cf, zz_cd]) (fun _ X => A_X9_feed X a0 a1 a2 a3 a4 a5 h)
-- X10_see RenamedWords$Reader.see(I)I
noncomputable def b_X10_see_25 (s0 : Int) (h : HP) : Option ((Int) × HP) :=
  some (s0, h)
theorem B_X10_see_25 {M : hp_M} {G : va_G} {h0 : HP} (X : hp_X M G h0 "RenamedWords$Reader" "see" cX10_see 2 (some .int) [] 0 0) (s0 : Int) (h : HP) : vv M G h0 2 (hp_End M G h0) jI h 25 [] [LI s0] (b_X10_see_25 s0 h) := by
  unfold b_X10_see_25
  exact vv_iretI X rfl rfl dX10_see_25
noncomputable def f_X10_see (a0 : Nat) (a1 : Int) (h : HP) : Option ((Int) × HP) :=
  (rdI h (some a0) [8, 12] 0).bind fun v1 =>
  iLE v1 a1
    (b_X10_see_25 (-1) h)
    ((rdR h (some a0) [8, 12] 6).bind fun v2 =>
    (rdR h v2 [0] 4).bind fun v3 =>
    (aldI h .byte v3 a1).bind fun v4 =>
    b_X10_see_25 (iAnd v4 255) h)
theorem A_X10_see {M : hp_M} {G : va_G} {h0 : HP} (X : hp_X M G h0 "RenamedWords$Reader" "see" cX10_see 2 (some .int) [] 0 0) (a0 : Nat) (a1 : Int) (h : HP) : vv M G h0 2 (hp_End M G h0) jI h 0 [(0, LR (some a0)), (1, LI a1)] [] (f_X10_see a0 a1 h) := by
  unfold f_X10_see
  refine vv_iload_n (pc := 0) X (kf := 1) (i := 1) rfl 1 rfl dX10_see_0 ?_
  refine vv_aload_n (pc := 1) X (kf := 0) (i := 0) rfl 0 rfl dX10_see_1 ?_
  refine vv_getI (pc := 2) X (fun _ z => by rcases List.mem_cons.mp z with rfl | z; exact fl_X10_19_8; cases List.mem_singleton.mp z; exact fl_X10_19_12) dX10_see_2 (fun v1 => ?_)
  refine vv_icmp_ge (pc := 5) (tgt := 24) X dX10_see_5 rfl ?_ ?_
  · refine vv_iconst (pc := 24) X dX10_see_24 ?_
    exact vv_sub [] (by rfl) (B_X10_see_25 X _ _)
  · refine vv_aload_n (pc := 8) X (kf := 0) (i := 0) rfl 0 rfl dX10_see_8 ?_
    refine vv_getR (pc := 9) X (fun _ z => by rcases List.mem_cons.mp z with rfl | z; exact fl_X10_3_8; cases List.mem_singleton.mp z; exact fl_X10_3_12) dX10_see_9 (fun v2 => ?_)
    refine vv_getR (pc := 12) X (fun _ z => by cases List.mem_singleton.mp z; exact fl_X10_40_0) dX10_see_12 (fun v3 => ?_)
    refine vv_iload_n (pc := 15) X (kf := 1) (i := 1) rfl 1 rfl dX10_see_15 ?_
    refine vv_baload (pc := 16) X dX10_see_16 (fun v4 => ?_)
    refine vv_sipush (pc := 17) X (by decide) dX10_see_17 ?_
    refine vv_iand (pc := 20) X dX10_see_20 ?_
    refine vv_goto (pc := 21) (tgt := 25) X dX10_see_21 rfl ?_
    exact vv_sub [] (by rfl) (B_X10_see_25 X _ _)
theorem m_X10_see {l : Launch} (hl : l.stackTraces = false) {G : va_G} (a0 : Nat) (a1 : Int) (h : HP) : ∀ r hf, f_X10_see a0 a1 h = some (r, hf) → Ct l yX10_see (ws_ yX10_see cX10_see 2 (some .int)) 0 0 G h [.ref a0, .int (iI a1)] (jI r) hf :=
  zz_ofW hl (by decide +kernel) (lv := [(0, LR (some a0)), (1, LI a1)]) (by simp [lv_args, lvL, lvV, zz_rfc, zz_rfs, zz_ci, zz_cr, zz_cj, zz_cf, zz_cd]) (by simp [lg_sl, zz_rfc, zz_ci, zz_cr, zz_cj, zz_cf, zz_cd]) (fun _ X => A_X10_see X a0 a1 h)
-- X1_in RenamedWords.in(JJJ)Z
noncomputable def b_X1_in_18 (s0 : Int) (h : HP) : Option ((Int) × HP) :=
  rtZ s0 (some (s0, h))
theorem B_X1_in_18 {M : hp_M} {G : va_G} {h0 : HP} (X : hp_X M G h0 "RenamedWords" "in" cX1_in 6 (some .boolean) [] 0 0) (s0 : Int) (h : HP) : vv M G h0 6 (hp_End M G h0) jI h 18 [] [LI s0] (b_X1_in_18 s0 h) := by
  unfold b_X1_in_18
  exact vv_iretZ X rfl rfl dX1_in_18
noncomputable def b_X1_in_17 (h : HP) : Option ((Int) × HP) :=
  b_X1_in_18 0 h
theorem B_X1_in_17 {M : hp_M} {G : va_G} {h0 : HP} (X : hp_X M G h0 "RenamedWords" "in" cX1_in 6 (some .boolean) [] 0 0) (h : HP) : vv M G h0 6 (hp_End M G h0) jI h 17 [] [] (b_X1_in_17 h) := by
  unfold b_X1_in_17
  refine vv_iconst (pc := 17) X dX1_in_17 ?_
  exact B_X1_in_18 X _ _
noncomputable def f_X1_in (a1 : Int64) (a2 : Int64) (a3 : Int64) (h : HP) : Option ((Int) × HP) :=
  iLT (lCmp a1 a2) 0
    (b_X1_in_17 h)
    (iLT 0 (lCmp a1 a3)
      (b_X1_in_17 h)
      (b_X1_in_18 1 h))
theorem A_X1_in {M : hp_M} {G : va_G} {h0 : HP} (X : hp_X M G h0 "RenamedWords" "in" cX1_in 6 (some .boolean) [] 0 0) (a1 : Int64) (a2 : Int64) (a3 : Int64) (h : HP) : vv M G h0 6 (hp_End M G h0) jI h 0 [(0, LJ a1), (2, LJ a2), (4, LJ a3)] [] (f_X1_in a1 a2 a3 h) := by
  unfold f_X1_in
  refine vv_lload_n (pc := 0) X (kf := 0) (i := 0) rfl 0 rfl dX1_in_0 ?_
  refine vv_lload_n (pc := 1) X (kf := 2) (i := 2) rfl 1 rfl dX1_in_1 ?_
  refine vv_lcmp (pc := 2) X dX1_in_2 ?_
  refine vv_if_lt (pc := 3) (tgt := 17) X dX1_in_3 rfl ?_ ?_
  · exact vv_sub [] (by rfl) (B_X1_in_17 X _)
  · refine vv_lload_n (pc := 6) X (kf := 0) (i := 0) rfl 0 rfl dX1_in_6 ?_
    refine vv_lload (pc := 7) X 2 rfl dX1_in_7 ?_
    refine vv_lcmp (pc := 9) X dX1_in_9 ?_
    refine vv_if_gt (pc := 10) (tgt := 17) X dX1_in_10 rfl ?_ ?_
    · exact vv_sub [] (by rfl) (B_X1_in_17 X _)
    · refine vv_iconst (pc := 13) X dX1_in_13 ?_
      refine vv_goto (pc := 14) (tgt := 18) X dX1_in_14 rfl ?_
      exact vv_sub [] (by rfl) (B_X1_in_18 X _ _)
theorem m_X1_in {l : Launch} (hl : l.stackTraces = false) {G : va_G} (a1 : Int64) (a2 : Int64) (a3 : Int64) (h : HP) : ∀ r hf, f_X1_in a1 a2 a3 h = some (r, hf) → Ct l yX1_in (ws_ yX1_in cX1_in 6 (some .boolean)) 0 0 G h [.long a1, .long a2, .long a3] (jI r) hf :=
  zz_ofW hl (by decide +kernel) (lv := [(0, LJ a1), (2, LJ a2), (4, LJ a3)]) (by simp [lv_args, lvL, lvV, zz_rfc, zz_rfs, zz_ci, zz_cr, zz_cj, zz_cf, zz_cd]) (by simp [lg_sl, zz_rfc, zz_ci, zz_cr, zz_cj, zz_cf, zz_cd]) (fun _ X => A_X1_in X a1 a2 a3 h)
-- J9_init java/lang/AbstractStringBuilder.<init>(I)V
noncomputable def f_J9_init (a0 : Nat) (a1 : Int) (h : HP) : Option ((Unit) × HP) :=
  iEQ 1 0
    (none)
    (hb (nwI h (tgR h (some a0)) .byte a1) fun v1 h2 =>
    (wrR h2 (some a0) [25] 0 v1).bind fun h3 =>
    (wrB h3 (some a0) [25] 1 0).bind fun h4 =>
    some ((), h4))
theorem A_J9_init {M : hp_M} {G : va_G} {h0 : HP} (X : hp_X M G h0 "java/lang/AbstractStringBuilder" "<init>" cJ9_init 2 none [] 1 28) (a0 : Nat) (a1 : Int) (h : HP) : vv M G h0 2 (hp_End M G h0) jV h 0 [(0, LR (some a0)), (1, LI a1)] [] (f_J9_init a0 a1 h) := by
  unfold f_J9_init
  refine vv_aload_n (pc := 0) X (kf := 0) (i := 0) rfl 0 rfl dJ9_init_0 ?_
  refine vv_objInit (pc := 1) X rfl q326 q212 q213 (by decide) (by decide) (Nat.le_of_ble_eq_true rfl) dJ9_init_1 ?_
  refine vv_gets (pc := 4) (w := LI 1) X (gs_0 _) rfl q327 dJ9_init_4 ?_
  refine vv_if_eq (pc := 7) (tgt := 25) X dJ9_init_7 rfl ?_ ?_
  · refine vv_aload_n (pc := 25) X (kf := 0) (i := 0) rfl 0 rfl dJ9_init_25 ?_
    refine vv_iload_n (pc := 26) X (kf := 1) (i := 1) rfl 1 rfl dJ9_init_26 ?_
    exact vv_none
  · refine vv_aload_n (pc := 10) X (kf := 0) (i := 0) rfl 0 rfl dJ9_init_10 ?_
    refine vv_iload_n (pc := 11) X (kf := 1) (i := 1) rfl 1 rfl dJ9_init_11 ?_
    refine vv_newbyte (pc := 12) X dJ9_init_12 (fun v1 h2 => ?_)
    refine vv_putR (pc := 14) (ty9 := (.array .byte)) (fin := false) X (fun _ z => by cases List.mem_singleton.mp z; exact fl_J9_15_25) (fun z => nomatch z) (fun z => nomatch z) (by decide +kernel) rfl dJ9_init_14 (fun h3 => ?_)
    refine vv_aload_n (pc := 17) X (kf := 0) (i := 0) rfl 0 rfl dJ9_init_17 ?_
    refine vv_iconst (pc := 18) X dJ9_init_18 ?_
    refine vv_putB (pc := 19) (fin := false) X (fun _ z => by cases List.mem_singleton.mp z; exact fl_J9_22_25) (fun z => nomatch z) (fun z => nomatch z) dJ9_init_19 (fun h4 => ?_)
    refine vv_goto (pc := 22) (tgt := 38) X dJ9_init_22 rfl ?_
    exact vv_vreturn X rfl rfl dJ9_init_38
theorem m_J9_init {l : Launch} (hl : l.stackTraces = false) {G : va_G} (a0 : Nat) (a1 : Int) (h : HP) : ∀ r hf, f_J9_init a0 a1 h = some (r, hf) → Ct l yJ9_init (ws_ yJ9_init cJ9_init 2 none) 1 28 G h [.ref a0, .int (iI a1)] (jV r) hf :=
  zz_ofW hl (by decide +kernel) (lv := [(0, LR (some a0)), (1, LI a1)]) (by simp [lv_args, lvL, lvV, zz_rfc, zz_rfs, zz_ci, zz_cr, zz_cj, zz_cf, zz_cd]) (by simp [lg_sl, zz_rfc, zz_ci, zz_cr, zz_cj, zz_cf, zz_cd]) (fun _ X => A_J9_init X a0 a1 h)
-- J10_init java/lang/StringBuilder.<init>()V
noncomputable def f_J10_init (a0 : Nat) (h : HP) : Option ((Unit) × HP) :=
  hb (f_J9_init a0 16 h) fun _ h2 =>
  some ((), h2)
theorem A_J10_init {M : hp_M} {G : va_G} {h0 : HP} (X : hp_X M G h0 "java/lang/StringBuilder" "<init>" cJ10_init 1 none [] 2 57) (a0 : Nat) (h : HP) : vv M G h0 1 (hp_End M G h0) jV h 0 [(0, LR (some a0))] [] (f_J10_init a0 h) := by
  unfold f_J10_init
  refine vv_aload_n (pc := 0) X (kf := 0) (i := 0) rfl 0 rfl dJ10_init_0 ?_
  refine vv_bipush (pc := 1) X (by decide) dJ10_init_1 ?_
  refine vv_callV (pc := 3) (rest := []) (by rfl) (fun r8 k8 e8 => zz_callI X (m_J9_init (hlM X) _ _ _ _ _ e8) q323 q324 q144 q325 rfl nh_J9 rfl (by decide) (by decide) (Nat.le_of_ble_eq_true rfl) dJ10_init_3) (fun v1 h2 => ?_)
  exact vv_vreturn X rfl rfl dJ10_init_6
theorem m_J10_init {l : Launch} (hl : l.stackTraces = false) {G : va_G} (a0 : Nat) (h : HP) : ∀ r hf, f_J10_init a0 h = some (r, hf) → Ct l yJ10_init (ws_ yJ10_init cJ10_init 1 none) 2 57 G h [.ref a0] (jV r) hf :=
  zz_ofW hl (by decide +kernel) (lv := [(0, LR (some a0))]) (by simp [lv_args, lvL, lvV, zz_rfc, zz_rfs, zz_ci, zz_cr, zz_cj, zz_cf, zz_cd]) (by simp [lg_sl, zz_rfc, zz_ci, zz_cr, zz_cj, zz_cf, zz_cd]) (fun _ X => A_J10_init X a0 h)
-- J14_max java/lang/Math.max(II)I
noncomputable def b_J14_max_10 (s0 : Int) (h : HP) : Option ((Int) × HP) :=
  some (s0, h)
theorem B_J14_max_10 {M : hp_M} {G : va_G} {h0 : HP} (X : hp_X M G h0 "java/lang/Math" "max" cJ14_max 2 (some .int) [] 0 0) (s0 : Int) (h : HP) : vv M G h0 2 (hp_End M G h0) jI h 10 [] [LI s0] (b_J14_max_10 s0 h) := by
  unfold b_J14_max_10
  exact vv_iretI X rfl rfl dJ14_max_10
noncomputable def f_J14_max (a1 : Int) (a2 : Int) (h : HP) : Option ((Int) × HP) :=
  iLT a1 a2
    (b_J14_max_10 a2 h)
    (b_J14_max_10 a1 h)
theorem A_J14_max {M : hp_M} {G : va_G} {h0 : HP} (X : hp_X M G h0 "java/lang/Math" "max" cJ14_max 2 (some .int) [] 0 0) (a1 : Int) (a2 : Int) (h : HP) : vv M G h0 2 (hp_End M G h0) jI h 0 [(0, LI a1), (1, LI a2)] [] (f_J14_max a1 a2 h) := by
  unfold f_J14_max
  refine vv_iload_n (pc := 0) X (kf := 0) (i := 0) rfl 0 rfl dJ14_max_0 ?_
  refine vv_iload_n (pc := 1) X (kf := 1) (i := 1) rfl 1 rfl dJ14_max_1 ?_
  refine vv_icmp_lt (pc := 2) (tgt := 9) X dJ14_max_2 rfl ?_ ?_
  · refine vv_iload_n (pc := 9) X (kf := 1) (i := 1) rfl 1 rfl dJ14_max_9 ?_
    exact vv_sub [] (by rfl) (B_J14_max_10 X _ _)
  · refine vv_iload_n (pc := 5) X (kf := 0) (i := 0) rfl 0 rfl dJ14_max_5 ?_
    refine vv_goto (pc := 6) (tgt := 10) X dJ14_max_6 rfl ?_
    exact vv_sub [] (by rfl) (B_J14_max_10 X _ _)
theorem m_J14_max {l : Launch} (hl : l.stackTraces = false) {G : va_G} (a1 : Int) (a2 : Int) (h : HP) : ∀ r hf, f_J14_max a1 a2 h = some (r, hf) → Ct l yJ14_max (ws_ yJ14_max cJ14_max 2 (some .int)) 0 0 G h [.int (iI a1), .int (iI a2)] (jI r) hf :=
  zz_ofW hl (by decide +kernel) (lv := [(0, LI a1), (1, LI a2)]) (by simp [lv_args, lvL, lvV, zz_rfc, zz_rfs, zz_ci, zz_cr, zz_cj, zz_cf, zz_cd]) (by simp [lg_sl, zz_rfc, zz_ci, zz_cr, zz_cj, zz_cf, zz_cd]) (fun _ X => A_J14_max X a1 a2 h)
-- J13_hugeLength jdk/internal/util/ArraysSupport.hugeLength(II)I
noncomputable def f_J13_hugeLength (a1 : Int) (a2 : Int) (h : HP) : Option ((Int) × HP) :=
  iLE 0 (a1 + a2)
    (iLT 2147483639 (a1 + a2)
      (some ((a1 + a2), h))
      (some (2147483639, h)))
    (none)
theorem A_J13_hugeLength {M : hp_M} {G : va_G} {h0 : HP} (X : hp_X M G h0 "jdk/internal/util/ArraysSupport" "hugeLength" cJ13_hugeLength 3 (some .int) [] 0 0) (a1 : Int) (a2 : Int) (h : HP) : vv M G h0 3 (hp_End M G h0) jI h 0 [(0, LI a1), (1, LI a2)] [] (f_J13_hugeLength a1 a2 h) := by
  unfold f_J13_hugeLength
  refine vv_iload_n (pc := 0) X (kf := 0) (i := 0) rfl 0 rfl dJ13_hugeLength_0 ?_
  refine vv_iload_n (pc := 1) X (kf := 1) (i := 1) rfl 1 rfl dJ13_hugeLength_1 ?_
  refine vv_iadd (pc := 2) X dJ13_hugeLength_2 ?_
  refine vv_istore_n (pc := 3) (lv' := [(2, LI (a1 + a2)), (0, LI a1), (1, LI a2)]) X (kf := 2) (i := 2) rfl (by decide) rfl dJ13_hugeLength_3 ?_
  refine vv_iload_n (pc := 4) X (kf := 2) (i := 2) rfl 0 rfl dJ13_hugeLength_4 ?_
  refine vv_if_ge (pc := 5) (tgt := 49) X dJ13_hugeLength_5 rfl ?_ ?_
  · refine vv_iload_n (pc := 49) X (kf := 2) (i := 2) rfl 0 rfl dJ13_hugeLength_49 ?_
    refine vv_ldcI (pc := 50) (n := 2147483639) X q376 (by decide) dJ13_hugeLength_50 ?_
    refine vv_icmp_gt (pc := 52) (tgt := 58) X dJ13_hugeLength_52 rfl ?_ ?_
    · refine vv_iload_n (pc := 58) X (kf := 2) (i := 2) rfl 0 rfl dJ13_hugeLength_58 ?_
      exact vv_iretI X rfl rfl dJ13_hugeLength_59
    · refine vv_ldcI (pc := 55) (n := 2147483639) X q376 (by decide) dJ13_hugeLength_55 ?_
      exact vv_iretI X rfl rfl dJ13_hugeLength_57
  · exact vv_none
theorem m_J13_hugeLength {l : Launch} (hl : l.stackTraces = false) {G : va_G} (a1 : Int) (a2 : Int) (h : HP) : ∀ r hf, f_J13_hugeLength a1 a2 h = some (r, hf) → Ct l yJ13_hugeLength (ws_ yJ13_hugeLength cJ13_hugeLength 3 (some .int)) 0 0 G h [.int (iI a1), .int (iI a2)] (jI r) hf :=
  zz_ofW hl (by decide +kernel) (lv := [(0, LI a1), (1, LI a2)]) (by simp [lv_args, lvL, lvV, zz_rfc, zz_rfs, zz_ci, zz_cr, zz_cj, zz_cf, zz_cd]) (by simp [lg_sl, zz_rfc, zz_ci, zz_cr, zz_cj, zz_cf, zz_cd]) (fun _ X => A_J13_hugeLength X a1 a2 h)
-- J13_newLength jdk/internal/util/ArraysSupport.newLength(III)I
noncomputable def b_J13_newLength_21 (x0 : Int) (x1 : Int) (h : HP) : Option ((Int) × HP) :=
  hb (f_J13_hugeLength x0 x1 h) fun v3 h4 =>
  some (v3, h4)
theorem B_J13_newLength_21 {M : hp_M} {G : va_G} {h0 : HP} (X : hp_X M G h0 "jdk/internal/util/ArraysSupport" "newLength" cJ13_newLength 4 (some .int) [] 1 30) (x0 : Int) (x1 : Int) (h : HP) : vv M G h0 4 (hp_End M G h0) jI h 21 [(0, LI x0), (1, LI x1)] [] (b_J13_newLength_21 x0 x1 h) := by
  unfold b_J13_newLength_21
  refine vv_iload_n (pc := 21) X (kf := 0) (i := 0) rfl 0 rfl dJ13_newLength_21 ?_
  refine vv_iload_n (pc := 22) X (kf := 1) (i := 1) rfl 1 rfl dJ13_newLength_22 ?_
  refine vv_callI (pc := 23) (rest := []) (by rfl) (fun r8 k8 e8 => zz_callS X (m_J13_hugeLength (hlM X) _ _ _ _ _ e8) q377 q378 q148 q379 nh_J13 rfl (by decide) (by decide) (Nat.le_of_ble_eq_true rfl) dJ13_newLength_23) (fun v3 h4 => ?_)
  exact vv_iretI X rfl rfl dJ13_newLength_26
noncomputable def f_J13_newLength (a1 : Int) (a2 : Int) (a3 : Int) (h : HP) : Option ((Int) × HP) :=
  hb (f_J14_max a2 a3 h) fun v1 h2 =>
  iLE (a1 + v1) 0
    (b_J13_newLength_21 a1 a2 h2)
    (iLT 2147483639 (a1 + v1)
      (b_J13_newLength_21 a1 a2 h2)
      (some ((a1 + v1), h2)))
theorem A_J13_newLength {M : hp_M} {G : va_G} {h0 : HP} (X : hp_X M G h0 "jdk/internal/util/ArraysSupport" "newLength" cJ13_newLength 4 (some .int) [] 1 30) (a1 : Int) (a2 : Int) (a3 : Int) (h : HP) : vv M G h0 4 (hp_End M G h0) jI h 0 [(0, LI a1), (1, LI a2), (2, LI a3)] [] (f_J13_newLength a1 a2 a3 h) := by
  unfold f_J13_newLength
  refine vv_iload_n (pc := 0) X (kf := 0) (i := 0) rfl 0 rfl dJ13_newLength_0 ?_
  refine vv_iload_n (pc := 1) X (kf := 1) (i := 1) rfl 1 rfl dJ13_newLength_1 ?_
  refine vv_iload_n (pc := 2) X (kf := 2) (i := 2) rfl 2 rfl dJ13_newLength_2 ?_
  refine vv_callI (pc := 3) (rest := [LI a1]) (by rfl) (fun r8 k8 e8 => zz_callS X (m_J14_max (hlM X) _ _ _ _ _ e8) q373 q374 q149 q375 nh_J14 rfl (by decide) (by decide) (Nat.le_of_ble_eq_true rfl) dJ13_newLength_3) (fun v1 h2 => ?_)
  refine vv_iadd (pc := 6) X dJ13_newLength_6 ?_
  refine vv_istore_n (pc := 7) (lv' := [(3, LI (a1 + v1)), (0, LI a1), (1, LI a2), (2, LI a3)]) X (kf := 3) (i := 3) rfl (by decide) rfl dJ13_newLength_7 ?_
  refine vv_iconst (pc := 8) X dJ13_newLength_8 ?_
  refine vv_iload_n (pc := 9) X (kf := 3) (i := 3) rfl 0 rfl dJ13_newLength_9 ?_
  refine vv_icmp_ge (pc := 10) (tgt := 21) X dJ13_newLength_10 rfl ?_ ?_
  · exact vv_sub [1, 2] (by rfl) (B_J13_newLength_21 X _ _ _)
  · refine vv_iload_n (pc := 13) X (kf := 3) (i := 3) rfl 0 rfl dJ13_newLength_13 ?_
    refine vv_ldcI (pc := 14) (n := 2147483639) X q376 (by decide) dJ13_newLength_14 ?_
    refine vv_icmp_gt (pc := 16) (tgt := 21) X dJ13_newLength_16 rfl ?_ ?_
    · exact vv_sub [1, 2] (by rfl) (B_J13_newLength_21 X _ _ _)
    · refine vv_iload_n (pc := 19) X (kf := 3) (i := 3) rfl 0 rfl dJ13_newLength_19 ?_
      exact vv_iretI X rfl rfl dJ13_newLength_20
theorem m_J13_newLength {l : Launch} (hl : l.stackTraces = false) {G : va_G} (a1 : Int) (a2 : Int) (a3 : Int) (h : HP) : ∀ r hf, f_J13_newLength a1 a2 a3 h = some (r, hf) → Ct l yJ13_newLength (ws_ yJ13_newLength cJ13_newLength 4 (some .int)) 1 30 G h [.int (iI a1), .int (iI a2), .int (iI a3)] (jI r) hf :=
  zz_ofW hl (by decide +kernel) (lv := [(0, LI a1), (1, LI a2), (2, LI a3)]) (by simp [lv_args, lvL, lvV, zz_rfc, zz_rfs, zz_ci, zz_cr, zz_cj, zz_cf, zz_cd]) (by simp [lg_sl, zz_rfc, zz_ci, zz_cr, zz_cj, zz_cf, zz_cd]) (fun _ X => A_J13_newLength X a1 a2 a3 h)
