/-! STAGE 1c: functions and contracts (printed by gen/mkfuncs.py). -/
set_option maxRecDepth 100000
set_option linter.unusedVariables false
-- X9_hits RenamedWordsModel.hits(I)I
noncomputable def c_X9_hits_4 (r4 : Option Nat → Int → Int → Int → HP → Option ((Int) × HP)) (x0 : Option Nat) (x1 : Int) (x2 : Int) (x3 : Int) (h : HP) : Option ((Int) × HP) :=
  (rdR h x0 [7] 0).bind fun v1 =>
  (aldI h .int v1 1).bind fun v2 =>
  iLE v2 x3
    (some (x2, h))
    ((rcv h x0 [7]).bind fun b5 =>
    hb (f_X9_isThere b5 x1 x3 h) fun v3 h4 =>
    hb (f_X9_one v3 h4) fun v7 h8 =>
    r4 x0 x1 (x2 + v7) (x3 + 1) h8)
noncomputable def b_X9_hits_4 : Option Nat → Int → Int → Int → HP → Option ((Int) × HP) := fx (fun _ _ _ _ _ => none) (c_X9_hits_4) FU
theorem C_X9_hits_4 {M : hp_M} {G : va_G} {h0 : HP} (X : hp_X M G h0 "RenamedWordsModel" "hits" cX9_hits 4 (some .int) [] 6 183) (r4 : Option Nat → Int → Int → Int → HP → Option ((Int) × HP)) (hr4 : ∀ (y0 : Option Nat) (y1 : Int) (y2 : Int) (y3 : Int) (h : HP), vv M G h0 4 (hp_End M G h0) jI h 4 [(0, LR y0), (1, LI y1), (2, LI y2), (3, LI y3)] [] (r4 y0 y1 y2 y3 h)) (x0 : Option Nat) (x1 : Int) (x2 : Int) (x3 : Int) (h : HP) : vv M G h0 4 (hp_End M G h0) jI h 4 [(0, LR x0), (1, LI x1), (2, LI x2), (3, LI x3)] [] (c_X9_hits_4 r4 x0 x1 x2 x3 h) := by
  unfold c_X9_hits_4
  refine vv_iload_n (pc := 4) X (kf := 3) (i := 3) rfl 3 rfl dX9_hits_4 ?_
  refine vv_aload_n (pc := 5) X (kf := 0) (i := 0) rfl 0 rfl dX9_hits_5 ?_
  refine vv_getR (pc := 6) X (fun _ z => by cases List.mem_singleton.mp z; exact fl_X9_9_7) dX9_hits_6 (fun v1 => ?_)
  refine vv_iconst (pc := 9) X dX9_hits_9 ?_
  refine vv_iaload (pc := 10) X dX9_hits_10 (fun v2 => ?_)
  refine vv_icmp_ge (pc := 11) (tgt := 32) X dX9_hits_11 rfl ?_ ?_
  · refine vv_iload_n (pc := 32) X (kf := 2) (i := 2) rfl 2 rfl dX9_hits_32 ?_
    exact vv_iretI X rfl rfl dX9_hits_33
  · refine vv_iload_n (pc := 14) X (kf := 2) (i := 2) rfl 2 rfl dX9_hits_14 ?_
    refine vv_aload_n (pc := 15) X (kf := 0) (i := 0) rfl 0 rfl dX9_hits_15 ?_
    refine vv_iload_n (pc := 16) X (kf := 1) (i := 1) rfl 1 rfl dX9_hits_16 ?_
    refine vv_iload_n (pc := 17) X (kf := 3) (i := 3) rfl 3 rfl dX9_hits_17 ?_
    refine vv_rcv (fun b5 t9 c9 fs9 e6 g9 k9 => ?_)
    cases List.mem_singleton.mp k9
    refine vv_callI (pc := 18) (rest := [LI x2]) (by rw [e6]; rfl) (fun r8 k8 e8 => zz_callV X (m_X9_isThere (hlM X) _ _ _ _ _ _ e8) g9 rfl rfl q3763 q3765 qs92 q164 q3766 nh_X9 rfl (by decide) (by decide) (Nat.le_of_ble_eq_true rfl) dX9_hits_18) (fun v3 h4 => ?_)
    refine vv_callI (pc := 21) (rest := [LI x2]) (by rfl) (fun r8 k8 e8 => zz_callS X (m_X9_one (hlM X) _ _ _ _ e8) q3559 q3560 q164 q3561 nh_X9 rfl (by decide) (by decide) (Nat.le_of_ble_eq_true rfl) dX9_hits_21) (fun v7 h8 => ?_)
    refine vv_iadd (pc := 24) X dX9_hits_24 ?_
    refine vv_istore_n (pc := 25) (lv' := [(2, LI (x2 + v7)), (0, LR x0), (1, LI x1), (3, LI x3)]) X (kf := 2) (i := 2) rfl (by decide) rfl dX9_hits_25 ?_
    refine vv_iinc (pc := 26) (lv' := [(3, LI (x3 + 1)), (2, LI (x2 + v7)), (0, LR x0), (1, LI x1)]) X 3 rfl (by decide) rfl dX9_hits_26 ?_
    refine vv_goto (pc := 29) (tgt := 4) X dX9_hits_29 rfl ?_
    exact vv_sub [2, 3, 1, 0] (by rfl) (hr4 _ _ _ _ _)
theorem B_X9_hits_4 {M : hp_M} {G : va_G} {h0 : HP} (X : hp_X M G h0 "RenamedWordsModel" "hits" cX9_hits 4 (some .int) [] 6 183) : ∀ (x0 : Option Nat) (x1 : Int) (x2 : Int) (x3 : Int) (h : HP), vv M G h0 4 (hp_End M G h0) jI h 4 [(0, LR x0), (1, LI x1), (2, LI x2), (3, LI x3)] [] (b_X9_hits_4 x0 x1 x2 x3 h) := by
  unfold b_X9_hits_4
  generalize FU = n
  induction n with
  | zero => intro x0 x1 x2 x3 h; exact vv_none
  | succ n ih => exact C_X9_hits_4 X _ ih
noncomputable def f_X9_hits (a0 : Nat) (a1 : Int) (h : HP) : Option ((Int) × HP) :=
  b_X9_hits_4 (some a0) a1 0 0 h
theorem A_X9_hits {M : hp_M} {G : va_G} {h0 : HP} (X : hp_X M G h0 "RenamedWordsModel" "hits" cX9_hits 4 (some .int) [] 6 183) (a0 : Nat) (a1 : Int) (h : HP) : vv M G h0 4 (hp_End M G h0) jI h 0 [(0, LR (some a0)), (1, LI a1)] [] (f_X9_hits a0 a1 h) := by
  unfold f_X9_hits
  refine vv_iconst (pc := 0) X dX9_hits_0 ?_
  refine vv_istore_n (pc := 1) (lv' := [(2, LI 0), (0, LR (some a0)), (1, LI a1)]) X (kf := 2) (i := 2) rfl (by decide) rfl dX9_hits_1 ?_
  refine vv_iconst (pc := 2) X dX9_hits_2 ?_
  refine vv_istore_n (pc := 3) (lv' := [(3, LI 0), (2, LI 0), (0, LR (some a0)), (1, LI a1)]) X (kf := 3) (i := 3) rfl (by decide) rfl dX9_hits_3 ?_
  exact vv_sub [2, 3, 1, 0] (by rfl) (B_X9_hits_4 X _ _ _ _ _)
theorem m_X9_hits {l : Launch} (hl : l.stackTraces = false) {G : va_G} (a0 : Nat) (a1 : Int) (h : HP) : ∀ r hf, f_X9_hits a0 a1 h = some (r, hf) → Ct l yX9_hits (ws_ yX9_hits cX9_hits 4 (some .int)) 6 183 G h [.ref a0, .int (iI a1)] (jI r) hf :=
  zz_ofW hl (by decide +kernel) (lv := [(0, LR (some a0)), (1, LI a1)]) (by simp [lv_args, lvL, lvV, zz_rfc, zz_rfs, zz_ci, zz_cr, zz_cj, zz_cf, zz_cd]) (by simp [lg_sl, zz_rfc, zz_ci, zz_cr, zz_cj, zz_cf, zz_cd]) (fun _ X => A_X9_hits X a0 a1 h)
-- X9_takeNow RenamedWordsModel.takeNow(III)I
noncomputable def b_X9_takeNow_22 (h : HP) : Option ((Int) × HP) :=
  some ((-4), h)
theorem B_X9_takeNow_22 {M : hp_M} {G : va_G} {h0 : HP} (X : hp_X M G h0 "RenamedWordsModel" "takeNow" cX9_takeNow 5 (some .int) [] 8 242) (h : HP) : vv M G h0 5 (hp_End M G h0) jI h 22 [] [] (b_X9_takeNow_22 h) := by
  unfold b_X9_takeNow_22
  refine vv_bipush (pc := 22) X (by decide) dX9_takeNow_22 ?_
  exact vv_iretI X rfl rfl dX9_takeNow_24
noncomputable def c_X9_takeNow_35 (r35 : Option Nat → Int → Int → Int → Int → HP → Option ((Int) × HP)) (x0 : Option Nat) (x1 : Int) (x2 : Int) (x3 : Int) (x4 : Int) (h : HP) : Option ((Int) × HP) :=
  iLE x3 x4
    ((rcv h x0 [7]).bind fun b11 =>
    hb (f_X9_counts b11 7 1 h) fun _ h10 =>
    (rcv h10 x0 [7]).bind fun b15 =>
    hb (f_X9_cleans b15 h10) fun _ h14 =>
    (rcv h14 x0 [7]).bind fun b19 =>
    hb (f_X9_hits b19 x1 h14) fun v17 h18 =>
    some (v17, h18))
    ((rdR h x0 [7] 0).bind fun v21 =>
    (aldI h .int v21 ((16 + x2) + x4)).bind fun v22 =>
    (rcv h x0 [7]).bind fun b25 =>
    hb (f_X9_puts b25 x1 (10 + x4) v22 h) fun _ h24 =>
    r35 x0 x1 x2 x3 (x4 + 1) h24)
noncomputable def b_X9_takeNow_35 : Option Nat → Int → Int → Int → Int → HP → Option ((Int) × HP) := fx (fun _ _ _ _ _ _ => none) (c_X9_takeNow_35) FU
theorem C_X9_takeNow_35 {M : hp_M} {G : va_G} {h0 : HP} (X : hp_X M G h0 "RenamedWordsModel" "takeNow" cX9_takeNow 5 (some .int) [] 8 242) (r35 : Option Nat → Int → Int → Int → Int → HP → Option ((Int) × HP)) (hr35 : ∀ (y0 : Option Nat) (y1 : Int) (y2 : Int) (y3 : Int) (y4 : Int) (h : HP), vv M G h0 5 (hp_End M G h0) jI h 35 [(0, LR y0), (1, LI y1), (2, LI y2), (3, LI y3), (4, LI y4)] [] (r35 y0 y1 y2 y3 y4 h)) (x0 : Option Nat) (x1 : Int) (x2 : Int) (x3 : Int) (x4 : Int) (h : HP) : vv M G h0 5 (hp_End M G h0) jI h 35 [(0, LR x0), (1, LI x1), (2, LI x2), (3, LI x3), (4, LI x4)] [] (c_X9_takeNow_35 r35 x0 x1 x2 x3 x4 h) := by
  unfold c_X9_takeNow_35
  refine vv_iload (pc := 35) X 4 rfl dX9_takeNow_35 ?_
  refine vv_iload_n (pc := 37) X (kf := 3) (i := 3) rfl 3 rfl dX9_takeNow_37 ?_
  refine vv_icmp_ge (pc := 38) (tgt := 69) X dX9_takeNow_38 rfl ?_ ?_
  · refine vv_aload_n (pc := 69) X (kf := 0) (i := 0) rfl 0 rfl dX9_takeNow_69 ?_
    refine vv_bipush (pc := 70) X (by decide) dX9_takeNow_70 ?_
    refine vv_iconst (pc := 72) X dX9_takeNow_72 ?_
    refine vv_rcv (fun b11 t9 c9 fs9 e12 g9 k9 => ?_)
    cases List.mem_singleton.mp k9
    refine vv_callV (pc := 73) (rest := []) (by rw [e12]; rfl) (fun r8 k8 e8 => zz_callV X (m_X9_counts (hlM X) _ _ _ _ _ _ e8) g9 rfl rfl q3739 q3741 qs86 q164 q3742 nh_X9 rfl (by decide) (by decide) (Nat.le_of_ble_eq_true rfl) dX9_takeNow_73) (fun v9 h10 => ?_)
    refine vv_aload_n (pc := 76) X (kf := 0) (i := 0) rfl 0 rfl dX9_takeNow_76 ?_
    refine vv_rcv (fun b15 t9 c9 fs9 e16 g9 k9 => ?_)
    cases List.mem_singleton.mp k9
    refine vv_callV (pc := 77) (rest := []) (by rw [e16]; rfl) (fun r8 k8 e8 => zz_callV X (m_X9_cleans (hlM X) _ _ _ _ e8) g9 rfl rfl q3751 q3753 qs89 q164 q3754 nh_X9 rfl (by decide) (by decide) (Nat.le_of_ble_eq_true rfl) dX9_takeNow_77) (fun v13 h14 => ?_)
    refine vv_aload_n (pc := 80) X (kf := 0) (i := 0) rfl 0 rfl dX9_takeNow_80 ?_
    refine vv_iload_n (pc := 81) X (kf := 1) (i := 1) rfl 1 rfl dX9_takeNow_81 ?_
    refine vv_rcv (fun b19 t9 c9 fs9 e20 g9 k9 => ?_)
    cases List.mem_singleton.mp k9
    refine vv_callI (pc := 82) (rest := []) (by rw [e20]; rfl) (fun r8 k8 e8 => zz_callV X (m_X9_hits (hlM X) _ _ _ _ _ e8) g9 rfl rfl q3829 q3831 qs107 q164 q3832 nh_X9 rfl (by decide) (by decide) (Nat.le_of_ble_eq_true rfl) dX9_takeNow_82) (fun v17 h18 => ?_)
    exact vv_iretI X rfl rfl dX9_takeNow_85
  · refine vv_aload_n (pc := 41) X (kf := 0) (i := 0) rfl 0 rfl dX9_takeNow_41 ?_
    refine vv_iload_n (pc := 42) X (kf := 1) (i := 1) rfl 1 rfl dX9_takeNow_42 ?_
    refine vv_bipush (pc := 43) X (by decide) dX9_takeNow_43 ?_
    refine vv_iload (pc := 45) X 4 rfl dX9_takeNow_45 ?_
    refine vv_iadd (pc := 47) X dX9_takeNow_47 ?_
    refine vv_aload_n (pc := 48) X (kf := 0) (i := 0) rfl 0 rfl dX9_takeNow_48 ?_
    refine vv_getR (pc := 49) X (fun _ z => by cases List.mem_singleton.mp z; exact fl_X9_9_7) dX9_takeNow_49 (fun v21 => ?_)
    refine vv_bipush (pc := 52) X (by decide) dX9_takeNow_52 ?_
    refine vv_iload_n (pc := 54) X (kf := 2) (i := 2) rfl 2 rfl dX9_takeNow_54 ?_
    refine vv_iadd (pc := 55) X dX9_takeNow_55 ?_
    refine vv_iload (pc := 56) X 4 rfl dX9_takeNow_56 ?_
    refine vv_iadd (pc := 58) X dX9_takeNow_58 ?_
    refine vv_iaload (pc := 59) X dX9_takeNow_59 (fun v22 => ?_)
    refine vv_rcv (fun b25 t9 c9 fs9 e26 g9 k9 => ?_)
    cases List.mem_singleton.mp k9
    refine vv_callV (pc := 60) (rest := []) (by rw [e26]; rfl) (fun r8 k8 e8 => zz_callV X (m_X9_puts (hlM X) _ _ _ _ _ _ _ e8) g9 rfl rfl q3641 q3643 qs66 q164 q3644 nh_X9 rfl (by decide) (by decide) (Nat.le_of_ble_eq_true rfl) dX9_takeNow_60) (fun v23 h24 => ?_)
    refine vv_iinc (pc := 63) (lv' := [(4, LI (x4 + 1)), (0, LR x0), (1, LI x1), (2, LI x2), (3, LI x3)]) X 4 rfl (by decide) rfl dX9_takeNow_63 ?_
    refine vv_goto (pc := 66) (tgt := 35) X dX9_takeNow_66 rfl ?_
    exact vv_sub [1, 2, 3, 4, 0] (by rfl) (hr35 _ _ _ _ _ _)
theorem B_X9_takeNow_35 {M : hp_M} {G : va_G} {h0 : HP} (X : hp_X M G h0 "RenamedWordsModel" "takeNow" cX9_takeNow 5 (some .int) [] 8 242) : ∀ (x0 : Option Nat) (x1 : Int) (x2 : Int) (x3 : Int) (x4 : Int) (h : HP), vv M G h0 5 (hp_End M G h0) jI h 35 [(0, LR x0), (1, LI x1), (2, LI x2), (3, LI x3), (4, LI x4)] [] (b_X9_takeNow_35 x0 x1 x2 x3 x4 h) := by
  unfold b_X9_takeNow_35
  generalize FU = n
  induction n with
  | zero => intro x0 x1 x2 x3 x4 h; exact vv_none
  | succ n ih => exact C_X9_takeNow_35 X _ ih
noncomputable def f_X9_takeNow (a0 : Nat) (a1 : Int) (a2 : Int) (a3 : Int) (h : HP) : Option ((Int) × HP) :=
  (rdR h (some a0) [7] 0).bind fun v1 =>
  (aldI h .int v1 1).bind fun v2 =>
  iLE v2 a2
    (b_X9_takeNow_22 h)
    ((rdR h (some a0) [7] 0).bind fun v3 =>
    (aldI h .int v3 1).bind fun v4 =>
    iLE (a2 + a3) v4
      ((rcv h (some a0) [7]).bind fun b7 =>
      hb (f_X9_puts b7 a1 0 a3 h) fun _ h6 =>
      b_X9_takeNow_35 (some a0) a1 a2 a3 0 h6)
      (b_X9_takeNow_22 h))
theorem A_X9_takeNow {M : hp_M} {G : va_G} {h0 : HP} (X : hp_X M G h0 "RenamedWordsModel" "takeNow" cX9_takeNow 5 (some .int) [] 8 242) (a0 : Nat) (a1 : Int) (a2 : Int) (a3 : Int) (h : HP) : vv M G h0 5 (hp_End M G h0) jI h 0 [(0, LR (some a0)), (1, LI a1), (2, LI a2), (3, LI a3)] [] (f_X9_takeNow a0 a1 a2 a3 h) := by
  unfold f_X9_takeNow
  refine vv_iload_n (pc := 0) X (kf := 2) (i := 2) rfl 2 rfl dX9_takeNow_0 ?_
  refine vv_aload_n (pc := 1) X (kf := 0) (i := 0) rfl 0 rfl dX9_takeNow_1 ?_
  refine vv_getR (pc := 2) X (fun _ z => by cases List.mem_singleton.mp z; exact fl_X9_9_7) dX9_takeNow_2 (fun v1 => ?_)
  refine vv_iconst (pc := 5) X dX9_takeNow_5 ?_
  refine vv_iaload (pc := 6) X dX9_takeNow_6 (fun v2 => ?_)
  refine vv_icmp_ge (pc := 7) (tgt := 22) X dX9_takeNow_7 rfl ?_ ?_
  · exact vv_sub [] (by rfl) (B_X9_takeNow_22 X _)
  · refine vv_iload_n (pc := 10) X (kf := 2) (i := 2) rfl 2 rfl dX9_takeNow_10 ?_
    refine vv_iload_n (pc := 11) X (kf := 3) (i := 3) rfl 3 rfl dX9_takeNow_11 ?_
    refine vv_iadd (pc := 12) X dX9_takeNow_12 ?_
    refine vv_aload_n (pc := 13) X (kf := 0) (i := 0) rfl 0 rfl dX9_takeNow_13 ?_
    refine vv_getR (pc := 14) X (fun _ z => by cases List.mem_singleton.mp z; exact fl_X9_9_7) dX9_takeNow_14 (fun v3 => ?_)
    refine vv_iconst (pc := 17) X dX9_takeNow_17 ?_
    refine vv_iaload (pc := 18) X dX9_takeNow_18 (fun v4 => ?_)
    refine vv_icmp_le (pc := 19) (tgt := 25) X dX9_takeNow_19 rfl ?_ ?_
    · refine vv_aload_n (pc := 25) X (kf := 0) (i := 0) rfl 0 rfl dX9_takeNow_25 ?_
      refine vv_iload_n (pc := 26) X (kf := 1) (i := 1) rfl 1 rfl dX9_takeNow_26 ?_
      refine vv_iconst (pc := 27) X dX9_takeNow_27 ?_
      refine vv_iload_n (pc := 28) X (kf := 3) (i := 3) rfl 3 rfl dX9_takeNow_28 ?_
      refine vv_rcv (fun b7 t9 c9 fs9 e8 g9 k9 => ?_)
      cases List.mem_singleton.mp k9
      refine vv_callV (pc := 29) (rest := []) (by rw [e8]; rfl) (fun r8 k8 e8 => zz_callV X (m_X9_puts (hlM X) _ _ _ _ _ _ _ e8) g9 rfl rfl q3641 q3643 qs66 q164 q3644 nh_X9 rfl (by decide) (by decide) (Nat.le_of_ble_eq_true rfl) dX9_takeNow_29) (fun v5 h6 => ?_)
      refine vv_iconst (pc := 32) X dX9_takeNow_32 ?_
      refine vv_istore (pc := 33) (lv' := [(4, LI 0), (0, LR (some a0)), (1, LI a1), (2, LI a2), (3, LI a3)]) X (by decide) rfl dX9_takeNow_33 ?_
      exact vv_sub [1, 2, 3, 4, 0] (by rfl) (B_X9_takeNow_35 X _ _ _ _ _ _)
    · exact vv_sub [] (by rfl) (B_X9_takeNow_22 X _)
theorem m_X9_takeNow {l : Launch} (hl : l.stackTraces = false) {G : va_G} (a0 : Nat) (a1 : Int) (a2 : Int) (a3 : Int) (h : HP) : ∀ r hf, f_X9_takeNow a0 a1 a2 a3 h = some (r, hf) → Ct l yX9_takeNow (ws_ yX9_takeNow cX9_takeNow 5 (some .int)) 8 242 G h [.ref a0, .int (iI a1), .int (iI a2), .int (iI a3)] (jI r) hf :=
  zz_ofW hl (by decide +kernel) (lv := [(0, LR (some a0)), (1, LI a1), (2, LI a2), (3, LI a3)]) (by simp [lv_args, lvL, lvV, zz_rfc, zz_rfs, zz_ci, zz_cr, zz_cj, zz_cf, zz_cd]) (by simp [lg_sl, zz_rfc, zz_ci, zz_cr, zz_cj, zz_cf, zz_cd]) (fun _ X => A_X9_takeNow X a0 a1 a2 a3 h)
-- X9_firmNow RenamedWordsModel.firmNow(I)I
noncomputable def f_X9_firmNow (a0 : Nat) (a1 : Int) (h : HP) : Option ((Int) × HP) :=
  (rdR h (some a0) [7] 0).bind fun v1 =>
  (aldI h .int v1 0).bind fun v2 =>
  (rdR h (some a0) [7] 0).bind fun v3 =>
  (astI h .int v3 0 a1).bind fun h4 =>
  (rcv h4 (some a0) [7]).bind fun b7 =>
  hb (f_X9_cleans b7 h4) fun _ h6 =>
  some (v2, h6)
theorem A_X9_firmNow {M : hp_M} {G : va_G} {h0 : HP} (X : hp_X M G h0 "RenamedWordsModel" "firmNow" cX9_firmNow 3 (some .int) [] 8 242) (a0 : Nat) (a1 : Int) (h : HP) : vv M G h0 3 (hp_End M G h0) jI h 0 [(0, LR (some a0)), (1, LI a1)] [] (f_X9_firmNow a0 a1 h) := by
  unfold f_X9_firmNow
  refine vv_aload_n (pc := 0) X (kf := 0) (i := 0) rfl 0 rfl dX9_firmNow_0 ?_
  refine vv_getR (pc := 1) X (fun _ z => by cases List.mem_singleton.mp z; exact fl_X9_9_7) dX9_firmNow_1 (fun v1 => ?_)
  refine vv_iconst (pc := 4) X dX9_firmNow_4 ?_
  refine vv_iaload (pc := 5) X dX9_firmNow_5 (fun v2 => ?_)
  refine vv_istore_n (pc := 6) (lv' := [(2, LI v2), (0, LR (some a0)), (1, LI a1)]) X (kf := 2) (i := 2) rfl (by decide) rfl dX9_firmNow_6 ?_
  refine vv_aload_n (pc := 7) X (kf := 0) (i := 0) rfl 1 rfl dX9_firmNow_7 ?_
  refine vv_getR (pc := 8) X (fun _ z => by cases List.mem_singleton.mp z; exact fl_X9_9_7) dX9_firmNow_8 (fun v3 => ?_)
  refine vv_iconst (pc := 11) X dX9_firmNow_11 ?_
  refine vv_iload_n (pc := 12) X (kf := 1) (i := 1) rfl 2 rfl dX9_firmNow_12 ?_
  refine vv_iastore (pc := 13) X dX9_firmNow_13 (fun h4 => ?_)
  refine vv_aload_n (pc := 14) X (kf := 0) (i := 0) rfl 1 rfl dX9_firmNow_14 ?_
  refine vv_rcv (fun b7 t9 c9 fs9 e8 g9 k9 => ?_)
  cases List.mem_singleton.mp k9
  refine vv_callV (pc := 15) (rest := []) (by rw [e8]; rfl) (fun r8 k8 e8 => zz_callV X (m_X9_cleans (hlM X) _ _ _ _ e8) g9 rfl rfl q3751 q3753 qs89 q164 q3754 nh_X9 rfl (by decide) (by decide) (Nat.le_of_ble_eq_true rfl) dX9_firmNow_15) (fun v5 h6 => ?_)
  refine vv_iload_n (pc := 18) X (kf := 2) (i := 2) rfl 0 rfl dX9_firmNow_18 ?_
  exact vv_iretI X rfl rfl dX9_firmNow_19
theorem m_X9_firmNow {l : Launch} (hl : l.stackTraces = false) {G : va_G} (a0 : Nat) (a1 : Int) (h : HP) : ∀ r hf, f_X9_firmNow a0 a1 h = some (r, hf) → Ct l yX9_firmNow (ws_ yX9_firmNow cX9_firmNow 3 (some .int)) 8 242 G h [.ref a0, .int (iI a1)] (jI r) hf :=
  zz_ofW hl (by decide +kernel) (lv := [(0, LR (some a0)), (1, LI a1)]) (by simp [lv_args, lvL, lvV, zz_rfc, zz_rfs, zz_ci, zz_cr, zz_cj, zz_cf, zz_cd]) (by simp [lg_sl, zz_rfc, zz_ci, zz_cr, zz_cj, zz_cf, zz_cd]) (fun _ X => A_X9_firmNow X a0 a1 h)
-- X9_does RenamedWordsModel.does(I)I
noncomputable def f_X9_does (a0 : Nat) (a1 : Int) (h : HP) : Option ((Int) × HP) :=
  (rdR h (some a0) [7] 23).bind fun v1 =>
  (aldI h .int v1 a1).bind fun v2 =>
  (rdR h (some a0) [7] 24).bind fun v3 =>
  (aldI h .int v3 a1).bind fun v4 =>
  (rdR h (some a0) [7] 25).bind fun v5 =>
  (aldI h .int v5 a1).bind fun v6 =>
  (rdR h (some a0) [7] 22).bind fun v7 =>
  (aldI h .int v7 a1).bind fun v8 =>
  iIN v8
    (if v8 = 0 then
      (rdR h (some a0) [7] 22).bind fun v9 =>
      (aldI h .int v9 a1).bind fun v10 =>
      (rcv h (some a0) [7]).bind fun b13 =>
      hb (f_X9_doesMany b13 v10 v2 v4 v6 h) fun v11 h12 =>
      some (v11, h12)
    else
    if v8 = 1 then
      (rdR h (some a0) [7] 22).bind fun v15 =>
      (aldI h .int v15 a1).bind fun v16 =>
      (rcv h (some a0) [7]).bind fun b19 =>
      hb (f_X9_doesMany b19 v16 v2 v4 v6 h) fun v17 h18 =>
      some (v17, h18)
    else
    if v8 = 2 then
      (rcv h (some a0) [7]).bind fun b23 =>
      hb (f_X9_doesMany b23 2 v2 0 v4 h) fun v21 h22 =>
      some (v21, h22)
    else
    if v8 = 3 then
      (rcv h (some a0) [7]).bind fun b27 =>
      hb (f_X9_markNow b27 v2 h) fun v25 h26 =>
      some (v25, h26)
    else
    if v8 = 4 then
      (rcv h (some a0) [7]).bind fun b31 =>
      hb (f_X9_unmarkNow b31 v2 h) fun v29 h30 =>
      some (v29, h30)
    else
    if v8 = 5 then
      (iDV v6 26).bind fun v33 =>
      (iRM v6 26).bind fun v34 =>
      (rcv h (some a0) [7]).bind fun b37 =>
      hb (f_X9_swapNow b37 v2 v4 v33 v34 h) fun v35 h36 =>
      some (v35, h36)
    else
    if v8 = 6 then
      (rcv h (some a0) [7]).bind fun b41 =>
      hb (f_X9_takeNow b41 v2 v4 v6 h) fun v39 h40 =>
      some (v39, h40)
    else
    (rcv h (some a0) [7]).bind fun b45 =>
    hb (f_X9_firmNow b45 v2 h) fun v43 h44 =>
    some (v43, h44))
theorem A_X9_does {M : hp_M} {G : va_G} {h0 : HP} (X : hp_X M G h0 "RenamedWordsModel" "does" cX9_does 5 (some .int) [] 10 307) (a0 : Nat) (a1 : Int) (h : HP) : vv M G h0 5 (hp_End M G h0) jI h 0 [(0, LR (some a0)), (1, LI a1)] [] (f_X9_does a0 a1 h) := by
  unfold f_X9_does
  refine vv_aload_n (pc := 0) X (kf := 0) (i := 0) rfl 0 rfl dX9_does_0 ?_
  refine vv_getR (pc := 1) X (fun _ z => by cases List.mem_singleton.mp z; exact fl_X9_48_7) dX9_does_1 (fun v1 => ?_)
  refine vv_iload_n (pc := 4) X (kf := 1) (i := 1) rfl 1 rfl dX9_does_4 ?_
  refine vv_iaload (pc := 5) X dX9_does_5 (fun v2 => ?_)
  refine vv_istore_n (pc := 6) (lv' := [(2, LI v2), (0, LR (some a0)), (1, LI a1)]) X (kf := 2) (i := 2) rfl (by decide) rfl dX9_does_6 ?_
  refine vv_aload_n (pc := 7) X (kf := 0) (i := 0) rfl 1 rfl dX9_does_7 ?_
  refine vv_getR (pc := 8) X (fun _ z => by cases List.mem_singleton.mp z; exact fl_X9_51_7) dX9_does_8 (fun v3 => ?_)
  refine vv_iload_n (pc := 11) X (kf := 1) (i := 1) rfl 2 rfl dX9_does_11 ?_
  refine vv_iaload (pc := 12) X dX9_does_12 (fun v4 => ?_)
  refine vv_istore_n (pc := 13) (lv' := [(3, LI v4), (2, LI v2), (0, LR (some a0)), (1, LI a1)]) X (kf := 3) (i := 3) rfl (by decide) rfl dX9_does_13 ?_
  refine vv_aload_n (pc := 14) X (kf := 0) (i := 0) rfl 2 rfl dX9_does_14 ?_
  refine vv_getR (pc := 15) X (fun _ z => by cases List.mem_singleton.mp z; exact fl_X9_54_7) dX9_does_15 (fun v5 => ?_)
  refine vv_iload_n (pc := 18) X (kf := 1) (i := 1) rfl 3 rfl dX9_does_18 ?_
  refine vv_iaload (pc := 19) X dX9_does_19 (fun v6 => ?_)
  refine vv_istore (pc := 20) (lv' := [(4, LI v6), (3, LI v4), (2, LI v2), (0, LR (some a0)), (1, LI a1)]) X (by decide) rfl dX9_does_20 ?_
  refine vv_aload_n (pc := 22) X (kf := 0) (i := 0) rfl 3 rfl dX9_does_22 ?_
  refine vv_getR (pc := 23) X (fun _ z => by cases List.mem_singleton.mp z; exact fl_X9_45_7) dX9_does_23 (fun v7 => ?_)
  refine vv_iload_n (pc := 26) X (kf := 1) (i := 1) rfl 4 rfl dX9_does_26 ?_
  refine vv_iaload (pc := 27) X dX9_does_27 (fun v8 => ?_)
  refine vv_iIN (fun hr => ?_)
  refine vv_if (fun e0 => ?_) (fun e0 => ?_)
  · refine vv_tsw (pc := 28) (off := 44) (tgt := 72) X dX9_does_28 hr (by omega) (by omega) (by rw [e0]; rfl) rfl ?_
    refine vv_aload_n (pc := 72) X (kf := 0) (i := 0) rfl 3 rfl dX9_does_72 ?_
    refine vv_aload_n (pc := 73) X (kf := 0) (i := 0) rfl 3 rfl dX9_does_73 ?_
    refine vv_getR (pc := 74) X (fun _ z => by cases List.mem_singleton.mp z; exact fl_X9_45_7) dX9_does_74 (fun v9 => ?_)
    refine vv_iload_n (pc := 77) X (kf := 1) (i := 1) rfl 4 rfl dX9_does_77 ?_
    refine vv_iaload (pc := 78) X dX9_does_78 (fun v10 => ?_)
    refine vv_iload_n (pc := 79) X (kf := 2) (i := 2) rfl 2 rfl dX9_does_79 ?_
    refine vv_iload_n (pc := 80) X (kf := 3) (i := 3) rfl 1 rfl dX9_does_80 ?_
    refine vv_iload (pc := 81) X 0 rfl dX9_does_81 ?_
    refine vv_rcv (fun b13 t9 c9 fs9 e14 g9 k9 => ?_)
    cases List.mem_singleton.mp k9
    refine vv_callI (pc := 83) (rest := []) (by rw [e14]; rfl) (fun r8 k8 e8 => zz_callV X (m_X9_doesMany (hlM X) _ _ _ _ _ _ _ _ e8) g9 rfl rfl q3731 q3733 qs84 q164 q3734 nh_X9 rfl (by decide) (by decide) (Nat.le_of_ble_eq_true rfl) dX9_does_83) (fun v11 h12 => ?_)
    exact vv_iretI X rfl rfl dX9_does_86
  refine vv_if (fun e1 => ?_) (fun e1 => ?_)
  · refine vv_tsw (pc := 28) (off := 44) (tgt := 72) X dX9_does_28 hr (by omega) (by omega) (by rw [e1]; rfl) rfl ?_
    refine vv_aload_n (pc := 72) X (kf := 0) (i := 0) rfl 3 rfl dX9_does_72 ?_
    refine vv_aload_n (pc := 73) X (kf := 0) (i := 0) rfl 3 rfl dX9_does_73 ?_
    refine vv_getR (pc := 74) X (fun _ z => by cases List.mem_singleton.mp z; exact fl_X9_45_7) dX9_does_74 (fun v15 => ?_)
    refine vv_iload_n (pc := 77) X (kf := 1) (i := 1) rfl 4 rfl dX9_does_77 ?_
    refine vv_iaload (pc := 78) X dX9_does_78 (fun v16 => ?_)
    refine vv_iload_n (pc := 79) X (kf := 2) (i := 2) rfl 2 rfl dX9_does_79 ?_
    refine vv_iload_n (pc := 80) X (kf := 3) (i := 3) rfl 1 rfl dX9_does_80 ?_
    refine vv_iload (pc := 81) X 0 rfl dX9_does_81 ?_
    refine vv_rcv (fun b19 t9 c9 fs9 e20 g9 k9 => ?_)
    cases List.mem_singleton.mp k9
    refine vv_callI (pc := 83) (rest := []) (by rw [e20]; rfl) (fun r8 k8 e8 => zz_callV X (m_X9_doesMany (hlM X) _ _ _ _ _ _ _ _ e8) g9 rfl rfl q3731 q3733 qs84 q164 q3734 nh_X9 rfl (by decide) (by decide) (Nat.le_of_ble_eq_true rfl) dX9_does_83) (fun v17 h18 => ?_)
    exact vv_iretI X rfl rfl dX9_does_86
  refine vv_if (fun e2 => ?_) (fun e2 => ?_)
  · refine vv_tsw (pc := 28) (off := 59) (tgt := 87) X dX9_does_28 hr (by omega) (by omega) (by rw [e2]; rfl) rfl ?_
    refine vv_aload_n (pc := 87) X (kf := 0) (i := 0) rfl 3 rfl dX9_does_87 ?_
    refine vv_iconst (pc := 88) X dX9_does_88 ?_
    refine vv_iload_n (pc := 89) X (kf := 2) (i := 2) rfl 2 rfl dX9_does_89 ?_
    refine vv_iconst (pc := 90) X dX9_does_90 ?_
    refine vv_iload_n (pc := 91) X (kf := 3) (i := 3) rfl 1 rfl dX9_does_91 ?_
    refine vv_rcv (fun b23 t9 c9 fs9 e24 g9 k9 => ?_)
    cases List.mem_singleton.mp k9
    refine vv_callI (pc := 92) (rest := []) (by rw [e24]; rfl) (fun r8 k8 e8 => zz_callV X (m_X9_doesMany (hlM X) _ _ _ _ _ _ _ _ e8) g9 rfl rfl q3731 q3733 qs84 q164 q3734 nh_X9 rfl (by decide) (by decide) (Nat.le_of_ble_eq_true rfl) dX9_does_92) (fun v21 h22 => ?_)
    exact vv_iretI X rfl rfl dX9_does_95
  refine vv_if (fun e3 => ?_) (fun e3 => ?_)
  · refine vv_tsw (pc := 28) (off := 68) (tgt := 96) X dX9_does_28 hr (by omega) (by omega) (by rw [e3]; rfl) rfl ?_
    refine vv_aload_n (pc := 96) X (kf := 0) (i := 0) rfl 3 rfl dX9_does_96 ?_
    refine vv_iload_n (pc := 97) X (kf := 2) (i := 2) rfl 2 rfl dX9_does_97 ?_
    refine vv_rcv (fun b27 t9 c9 fs9 e28 g9 k9 => ?_)
    cases List.mem_singleton.mp k9
    refine vv_callI (pc := 98) (rest := []) (by rw [e28]; rfl) (fun r8 k8 e8 => zz_callV X (m_X9_markNow (hlM X) _ _ _ _ _ e8) g9 rfl rfl q3813 q3815 qs103 q164 q3816 nh_X9 rfl (by decide) (by decide) (Nat.le_of_ble_eq_true rfl) dX9_does_98) (fun v25 h26 => ?_)
    exact vv_iretI X rfl rfl dX9_does_101
  refine vv_if (fun e4 => ?_) (fun e4 => ?_)
  · refine vv_tsw (pc := 28) (off := 74) (tgt := 102) X dX9_does_28 hr (by omega) (by omega) (by rw [e4]; rfl) rfl ?_
    refine vv_aload_n (pc := 102) X (kf := 0) (i := 0) rfl 3 rfl dX9_does_102 ?_
    refine vv_iload_n (pc := 103) X (kf := 2) (i := 2) rfl 2 rfl dX9_does_103 ?_
    refine vv_rcv (fun b31 t9 c9 fs9 e32 g9 k9 => ?_)
    cases List.mem_singleton.mp k9
    refine vv_callI (pc := 104) (rest := []) (by rw [e32]; rfl) (fun r8 k8 e8 => zz_callV X (m_X9_unmarkNow (hlM X) _ _ _ _ _ e8) g9 rfl rfl q3817 q3819 qs104 q164 q3820 nh_X9 rfl (by decide) (by decide) (Nat.le_of_ble_eq_true rfl) dX9_does_104) (fun v29 h30 => ?_)
    exact vv_iretI X rfl rfl dX9_does_107
  refine vv_if (fun e5 => ?_) (fun e5 => ?_)
  · refine vv_tsw (pc := 28) (off := 80) (tgt := 108) X dX9_does_28 hr (by omega) (by omega) (by rw [e5]; rfl) rfl ?_
    refine vv_aload_n (pc := 108) X (kf := 0) (i := 0) rfl 3 rfl dX9_does_108 ?_
    refine vv_iload_n (pc := 109) X (kf := 2) (i := 2) rfl 2 rfl dX9_does_109 ?_
    refine vv_iload_n (pc := 110) X (kf := 3) (i := 3) rfl 1 rfl dX9_does_110 ?_
    refine vv_iload (pc := 111) X 0 rfl dX9_does_111 ?_
    refine vv_bipush (pc := 113) X (by decide) dX9_does_113 ?_
    refine vv_idiv (pc := 115) X dX9_does_115 (fun v33 => ?_)
    refine vv_iload (pc := 116) X 0 rfl dX9_does_116 ?_
    refine vv_bipush (pc := 118) X (by decide) dX9_does_118 ?_
    refine vv_irem (pc := 120) X dX9_does_120 (fun v34 => ?_)
    refine vv_rcv (fun b37 t9 c9 fs9 e38 g9 k9 => ?_)
    cases List.mem_singleton.mp k9
    refine vv_callI (pc := 121) (rest := []) (by rw [e38]; rfl) (fun r8 k8 e8 => zz_callV X (m_X9_swapNow (hlM X) _ _ _ _ _ _ _ _ e8) g9 rfl rfl q3821 q3823 qs105 q164 q3824 nh_X9 rfl (by decide) (by decide) (Nat.le_of_ble_eq_true rfl) dX9_does_121) (fun v35 h36 => ?_)
    exact vv_iretI X rfl rfl dX9_does_124
  refine vv_if (fun e6 => ?_) (fun e6 => ?_)
  · refine vv_tsw (pc := 28) (off := 97) (tgt := 125) X dX9_does_28 hr (by omega) (by omega) (by rw [e6]; rfl) rfl ?_
    refine vv_aload_n (pc := 125) X (kf := 0) (i := 0) rfl 3 rfl dX9_does_125 ?_
    refine vv_iload_n (pc := 126) X (kf := 2) (i := 2) rfl 2 rfl dX9_does_126 ?_
    refine vv_iload_n (pc := 127) X (kf := 3) (i := 3) rfl 1 rfl dX9_does_127 ?_
    refine vv_iload (pc := 128) X 0 rfl dX9_does_128 ?_
    refine vv_rcv (fun b41 t9 c9 fs9 e42 g9 k9 => ?_)
    cases List.mem_singleton.mp k9
    refine vv_callI (pc := 130) (rest := []) (by rw [e42]; rfl) (fun r8 k8 e8 => zz_callV X (m_X9_takeNow (hlM X) _ _ _ _ _ _ _ e8) g9 rfl rfl q3825 q3827 qs106 q164 q3828 nh_X9 rfl (by decide) (by decide) (Nat.le_of_ble_eq_true rfl) dX9_does_130) (fun v39 h40 => ?_)
    exact vv_iretI X rfl rfl dX9_does_133
  refine vv_tswD (pc := 28) (tgt := 134) X dX9_does_28 hr (by omega) rfl ?_
  refine vv_aload_n (pc := 134) X (kf := 0) (i := 0) rfl 3 rfl dX9_does_134 ?_
  refine vv_iload_n (pc := 135) X (kf := 2) (i := 2) rfl 2 rfl dX9_does_135 ?_
  refine vv_rcv (fun b45 t9 c9 fs9 e46 g9 k9 => ?_)
  cases List.mem_singleton.mp k9
  refine vv_callI (pc := 136) (rest := []) (by rw [e46]; rfl) (fun r8 k8 e8 => zz_callV X (m_X9_firmNow (hlM X) _ _ _ _ _ e8) g9 rfl rfl q3833 q3835 qs108 q164 q3836 nh_X9 rfl (by decide) (by decide) (Nat.le_of_ble_eq_true rfl) dX9_does_136) (fun v43 h44 => ?_)
  exact vv_iretI X rfl rfl dX9_does_139
theorem m_X9_does {l : Launch} (hl : l.stackTraces = false) {G : va_G} (a0 : Nat) (a1 : Int) (h : HP) : ∀ r hf, f_X9_does a0 a1 h = some (r, hf) → Ct l yX9_does (ws_ yX9_does cX9_does 5 (some .int)) 10 307 G h [.ref a0, .int (iI a1)] (jI r) hf :=
  zz_ofW hl (by decide +kernel) (lv := [(0, LR (some a0)), (1, LI a1)]) (by simp [lv_args, lvL, lvV, zz_rfc, zz_rfs, zz_ci, zz_cr, zz_cj, zz_cf, zz_cd]) (by simp [lg_sl, zz_rfc, zz_ci, zz_cr, zz_cj, zz_cf, zz_cd]) (fun _ X => A_X9_does X a0 a1 h)
-- X9_plays RenamedWordsModel.plays()I
noncomputable def b_X9_plays_157 (x1 : Int) (h : HP) : Option ((Int) × HP) :=
  some (x1, h)
theorem B_X9_plays_157 {M : hp_M} {G : va_G} {h0 : HP} (X : hp_X M G h0 "RenamedWordsModel" "plays" cX9_plays 4 (some .int) [] 11 339) (x1 : Int) (h : HP) : vv M G h0 4 (hp_End M G h0) jI h 157 [(1, LI x1)] [] (b_X9_plays_157 x1 h) := by
  unfold b_X9_plays_157
  refine vv_iload_n (pc := 157) X (kf := 1) (i := 1) rfl 0 rfl dX9_plays_157 ?_
  exact vv_iretI X rfl rfl dX9_plays_158
noncomputable def b_X9_plays_151 (r6 : Option Nat → Int → Int → Int → HP → Option ((Int) × HP)) (x0 : Option Nat) (x1 : Int) (x2 : Int) (x3 : Int) (h : HP) : Option ((Int) × HP) :=
  r6 x0 x1 x2 (x3 + 1) h
theorem B_X9_plays_151 {M : hp_M} {G : va_G} {h0 : HP} (X : hp_X M G h0 "RenamedWordsModel" "plays" cX9_plays 4 (some .int) [] 11 339) (r6 : Option Nat → Int → Int → Int → HP → Option ((Int) × HP)) (hr6 : ∀ (y0 : Option Nat) (y1 : Int) (y2 : Int) (y3 : Int) (h : HP), vv M G h0 4 (hp_End M G h0) jI h 6 [(0, LR y0), (1, LI y1), (2, LI y2), (3, LI y3)] [] (r6 y0 y1 y2 y3 h)) (x0 : Option Nat) (x1 : Int) (x2 : Int) (x3 : Int) (h : HP) : vv M G h0 4 (hp_End M G h0) jI h 151 [(0, LR x0), (1, LI x1), (2, LI x2), (3, LI x3)] [] (b_X9_plays_151 r6 x0 x1 x2 x3 h) := by
  unfold b_X9_plays_151
  refine vv_iinc (pc := 151) (lv' := [(3, LI (x3 + 1)), (0, LR x0), (1, LI x1), (2, LI x2)]) X 3 rfl (by decide) rfl dX9_plays_151 ?_
  refine vv_goto (pc := 154) (tgt := 6) X dX9_plays_154 rfl ?_
  exact vv_sub [1, 2, 3, 0] (by rfl) (hr6 _ _ _ _ _)
noncomputable def b_X9_plays_50 (r6 : Option Nat → Int → Int → Int → HP → Option ((Int) × HP)) (x0 : Option Nat) (x1 : Int) (x2 : Int) (x3 : Int) (h : HP) : Option ((Int) × HP) :=
  (rdR h x0 [7] 22).bind fun v4 =>
  (aldI h .int v4 x3).bind fun v5 =>
  iEQ v5 8
    ((rdR h x0 [7] 27).bind fun v19 =>
    (astI h .int v19 x2 x3).bind fun h20 =>
    (rdR h20 x0 [7] 28).bind fun v21 =>
    (rdR h20 x0 [7] 23).bind fun v22 =>
    (aldI h20 .int v22 x3).bind fun v23 =>
    (astI h20 .int v21 x2 v23).bind fun h24 =>
    b_X9_plays_151 r6 x0 x1 (x2 + 1) x3 h24)
    ((rdR h x0 [7] 22).bind fun v6 =>
    (aldI h .int v6 x3).bind fun v7 =>
    iEQ v7 9
      ((rdR h x0 [7] 28).bind fun v12 =>
      (aldI h .int v12 (x2 - 1)).bind fun v13 =>
      (astI h .int v12 (x2 - 1) (v13 - 1)).bind fun h14 =>
      (rdR h14 x0 [7] 28).bind fun v15 =>
      (aldI h14 .int v15 (x2 - 1)).bind fun v16 =>
      iLE v16 0
        (b_X9_plays_151 r6 x0 x1 (x2 + (-1)) x3 h14)
        ((rdR h14 x0 [7] 27).bind fun v17 =>
        (aldI h14 .int v17 (x2 - 1)).bind fun v18 =>
        b_X9_plays_151 r6 x0 x1 x2 v18 h14))
      ((rcv h x0 [7]).bind fun b10 =>
      hb (f_X9_does b10 x3 h) fun v8 h9 =>
      iLE 0 v8
        (b_X9_plays_151 r6 x0 (x1 + 1) x2 x3 h9)
        (some (x1, h9))))
theorem B_X9_plays_50 {M : hp_M} {G : va_G} {h0 : HP} (X : hp_X M G h0 "RenamedWordsModel" "plays" cX9_plays 4 (some .int) [] 11 339) (r6 : Option Nat → Int → Int → Int → HP → Option ((Int) × HP)) (hr6 : ∀ (y0 : Option Nat) (y1 : Int) (y2 : Int) (y3 : Int) (h : HP), vv M G h0 4 (hp_End M G h0) jI h 6 [(0, LR y0), (1, LI y1), (2, LI y2), (3, LI y3)] [] (r6 y0 y1 y2 y3 h)) (x0 : Option Nat) (x1 : Int) (x2 : Int) (x3 : Int) (h : HP) : vv M G h0 4 (hp_End M G h0) jI h 50 [(0, LR x0), (1, LI x1), (2, LI x2), (3, LI x3)] [] (b_X9_plays_50 r6 x0 x1 x2 x3 h) := by
  unfold b_X9_plays_50
  refine vv_aload_n (pc := 50) X (kf := 0) (i := 0) rfl 0 rfl dX9_plays_50 ?_
  refine vv_getR (pc := 51) X (fun _ z => by cases List.mem_singleton.mp z; exact fl_X9_45_7) dX9_plays_51 (fun v4 => ?_)
  refine vv_iload_n (pc := 54) X (kf := 3) (i := 3) rfl 3 rfl dX9_plays_54 ?_
  refine vv_iaload (pc := 55) X dX9_plays_55 (fun v5 => ?_)
  refine vv_bipush (pc := 56) X (by decide) dX9_plays_56 ?_
  refine vv_icmp_ne (pc := 58) (tgt := 86) X dX9_plays_58 rfl ?_ ?_
  · refine vv_aload_n (pc := 86) X (kf := 0) (i := 0) rfl 0 rfl dX9_plays_86 ?_
    refine vv_getR (pc := 87) X (fun _ z => by cases List.mem_singleton.mp z; exact fl_X9_45_7) dX9_plays_87 (fun v6 => ?_)
    refine vv_iload_n (pc := 90) X (kf := 3) (i := 3) rfl 3 rfl dX9_plays_90 ?_
    refine vv_iaload (pc := 91) X dX9_plays_91 (fun v7 => ?_)
    refine vv_bipush (pc := 92) X (by decide) dX9_plays_92 ?_
    refine vv_icmp_ne (pc := 94) (tgt := 138) X dX9_plays_94 rfl ?_ ?_
    · refine vv_aload_n (pc := 138) X (kf := 0) (i := 0) rfl 0 rfl dX9_plays_138 ?_
      refine vv_iload_n (pc := 139) X (kf := 3) (i := 3) rfl 3 rfl dX9_plays_139 ?_
      refine vv_rcv (fun b10 t9 c9 fs9 e11 g9 k9 => ?_)
      cases List.mem_singleton.mp k9
      refine vv_callI (pc := 140) (rest := []) (by rw [e11]; rfl) (fun r8 k8 e8 => zz_callV X (m_X9_does (hlM X) _ _ _ _ _ e8) g9 rfl rfl q3727 q3729 qs83 q164 q3730 nh_X9 rfl (by decide) (by decide) (Nat.le_of_ble_eq_true rfl) dX9_plays_140) (fun v8 h9 => ?_)
      refine vv_if_ge (pc := 143) (tgt := 148) X dX9_plays_143 rfl ?_ ?_
      · refine vv_iinc (pc := 148) (lv' := [(1, LI (x1 + 1)), (0, LR x0), (2, LI x2), (3, LI x3)]) X 1 rfl (by decide) rfl dX9_plays_148 ?_
        exact vv_sub [1, 0, 2, 3] (by rfl) (B_X9_plays_151 X r6 hr6 _ _ _ _ _)
      · refine vv_iload_n (pc := 146) X (kf := 1) (i := 1) rfl 1 rfl dX9_plays_146 ?_
        exact vv_iretI X rfl rfl dX9_plays_147
    · refine vv_aload_n (pc := 97) X (kf := 0) (i := 0) rfl 0 rfl dX9_plays_97 ?_
      refine vv_getR (pc := 98) X (fun _ z => by cases List.mem_singleton.mp z; exact fl_X9_63_7) dX9_plays_98 (fun v12 => ?_)
      refine vv_iload_n (pc := 101) X (kf := 2) (i := 2) rfl 2 rfl dX9_plays_101 ?_
      refine vv_iconst (pc := 102) X dX9_plays_102 ?_
      refine vv_isub (pc := 103) X dX9_plays_103 ?_
      refine vv_dup2 (pc := 104) X rfl rfl dX9_plays_104 ?_
      refine vv_iaload (pc := 105) X dX9_plays_105 (fun v13 => ?_)
      refine vv_iconst (pc := 106) X dX9_plays_106 ?_
      refine vv_isub (pc := 107) X dX9_plays_107 ?_
      refine vv_iastore (pc := 108) X dX9_plays_108 (fun h14 => ?_)
      refine vv_aload_n (pc := 109) X (kf := 0) (i := 0) rfl 0 rfl dX9_plays_109 ?_
      refine vv_getR (pc := 110) X (fun _ z => by cases List.mem_singleton.mp z; exact fl_X9_63_7) dX9_plays_110 (fun v15 => ?_)
      refine vv_iload_n (pc := 113) X (kf := 2) (i := 2) rfl 2 rfl dX9_plays_113 ?_
      refine vv_iconst (pc := 114) X dX9_plays_114 ?_
      refine vv_isub (pc := 115) X dX9_plays_115 ?_
      refine vv_iaload (pc := 116) X dX9_plays_116 (fun v16 => ?_)
      refine vv_if_le (pc := 117) (tgt := 132) X dX9_plays_117 rfl ?_ ?_
      · refine vv_iinc (pc := 132) (lv' := [(2, LI (x2 + (-1))), (0, LR x0), (1, LI x1), (3, LI x3)]) X 2 rfl (by decide) rfl dX9_plays_132 ?_
        refine vv_goto (pc := 135) (tgt := 151) X dX9_plays_135 rfl ?_
        exact vv_sub [1, 2, 0, 3] (by rfl) (B_X9_plays_151 X r6 hr6 _ _ _ _ _)
      · refine vv_aload_n (pc := 120) X (kf := 0) (i := 0) rfl 0 rfl dX9_plays_120 ?_
        refine vv_getR (pc := 121) X (fun _ z => by cases List.mem_singleton.mp z; exact fl_X9_60_7) dX9_plays_121 (fun v17 => ?_)
        refine vv_iload_n (pc := 124) X (kf := 2) (i := 2) rfl 2 rfl dX9_plays_124 ?_
        refine vv_iconst (pc := 125) X dX9_plays_125 ?_
        refine vv_isub (pc := 126) X dX9_plays_126 ?_
        refine vv_iaload (pc := 127) X dX9_plays_127 (fun v18 => ?_)
        refine vv_istore_n (pc := 128) (lv' := [(3, LI v18), (0, LR x0), (1, LI x1), (2, LI x2)]) X (kf := 3) (i := 3) rfl (by decide) rfl dX9_plays_128 ?_
        refine vv_goto (pc := 129) (tgt := 151) X dX9_plays_129 rfl ?_
        exact vv_sub [1, 2, 3, 0] (by rfl) (B_X9_plays_151 X r6 hr6 _ _ _ _ _)
  · refine vv_aload_n (pc := 61) X (kf := 0) (i := 0) rfl 0 rfl dX9_plays_61 ?_
    refine vv_getR (pc := 62) X (fun _ z => by cases List.mem_singleton.mp z; exact fl_X9_60_7) dX9_plays_62 (fun v19 => ?_)
    refine vv_iload_n (pc := 65) X (kf := 2) (i := 2) rfl 2 rfl dX9_plays_65 ?_
    refine vv_iload_n (pc := 66) X (kf := 3) (i := 3) rfl 3 rfl dX9_plays_66 ?_
    refine vv_iastore (pc := 67) X dX9_plays_67 (fun h20 => ?_)
    refine vv_aload_n (pc := 68) X (kf := 0) (i := 0) rfl 0 rfl dX9_plays_68 ?_
    refine vv_getR (pc := 69) X (fun _ z => by cases List.mem_singleton.mp z; exact fl_X9_63_7) dX9_plays_69 (fun v21 => ?_)
    refine vv_iload_n (pc := 72) X (kf := 2) (i := 2) rfl 2 rfl dX9_plays_72 ?_
    refine vv_aload_n (pc := 73) X (kf := 0) (i := 0) rfl 0 rfl dX9_plays_73 ?_
    refine vv_getR (pc := 74) X (fun _ z => by cases List.mem_singleton.mp z; exact fl_X9_48_7) dX9_plays_74 (fun v22 => ?_)
    refine vv_iload_n (pc := 77) X (kf := 3) (i := 3) rfl 3 rfl dX9_plays_77 ?_
    refine vv_iaload (pc := 78) X dX9_plays_78 (fun v23 => ?_)
    refine vv_iastore (pc := 79) X dX9_plays_79 (fun h24 => ?_)
    refine vv_iinc (pc := 80) (lv' := [(2, LI (x2 + 1)), (0, LR x0), (1, LI x1), (3, LI x3)]) X 2 rfl (by decide) rfl dX9_plays_80 ?_
    refine vv_goto (pc := 83) (tgt := 151) X dX9_plays_83 rfl ?_
    exact vv_sub [1, 2, 0, 3] (by rfl) (B_X9_plays_151 X r6 hr6 _ _ _ _ _)
noncomputable def c_X9_plays_6 (r6 : Option Nat → Int → Int → Int → HP → Option ((Int) × HP)) (x0 : Option Nat) (x1 : Int) (x2 : Int) (x3 : Int) (h : HP) : Option ((Int) × HP) :=
  (rdI h x0 [7] 29).bind fun v1 =>
  iLE v1 x3
    (b_X9_plays_157 x1 h)
    (iLE 40 x1
      (b_X9_plays_157 x1 h)
      ((rdR h x0 [7] 22).bind fun v2 =>
      (aldI h .int v2 x3).bind fun v3 =>
      iEQ v3 8
        ((rdR h x0 [7] 23).bind fun v25 =>
        (aldI h .int v25 x3).bind fun v26 =>
        iEQ v26 0
          ((rdR h x0 [7] 26).bind fun v27 =>
          (aldI h .int v27 x3).bind fun v28 =>
          b_X9_plays_151 r6 x0 x1 x2 v28 h)
          (b_X9_plays_50 r6 x0 x1 x2 x3 h))
        (b_X9_plays_50 r6 x0 x1 x2 x3 h)))
noncomputable def b_X9_plays_6 : Option Nat → Int → Int → Int → HP → Option ((Int) × HP) := fx (fun _ _ _ _ _ => none) (c_X9_plays_6) FU
theorem C_X9_plays_6 {M : hp_M} {G : va_G} {h0 : HP} (X : hp_X M G h0 "RenamedWordsModel" "plays" cX9_plays 4 (some .int) [] 11 339) (r6 : Option Nat → Int → Int → Int → HP → Option ((Int) × HP)) (hr6 : ∀ (y0 : Option Nat) (y1 : Int) (y2 : Int) (y3 : Int) (h : HP), vv M G h0 4 (hp_End M G h0) jI h 6 [(0, LR y0), (1, LI y1), (2, LI y2), (3, LI y3)] [] (r6 y0 y1 y2 y3 h)) (x0 : Option Nat) (x1 : Int) (x2 : Int) (x3 : Int) (h : HP) : vv M G h0 4 (hp_End M G h0) jI h 6 [(0, LR x0), (1, LI x1), (2, LI x2), (3, LI x3)] [] (c_X9_plays_6 r6 x0 x1 x2 x3 h) := by
  unfold c_X9_plays_6
  refine vv_iload_n (pc := 6) X (kf := 3) (i := 3) rfl 3 rfl dX9_plays_6 ?_
  refine vv_aload_n (pc := 7) X (kf := 0) (i := 0) rfl 0 rfl dX9_plays_7 ?_
  refine vv_getI (pc := 8) X (fun _ z => by cases List.mem_singleton.mp z; exact fl_X9_286_7) dX9_plays_8 (fun v1 => ?_)
  refine vv_icmp_ge (pc := 11) (tgt := 157) X dX9_plays_11 rfl ?_ ?_
  · exact vv_sub [1] (by rfl) (B_X9_plays_157 X _ _)
  · refine vv_iload_n (pc := 14) X (kf := 1) (i := 1) rfl 1 rfl dX9_plays_14 ?_
    refine vv_bipush (pc := 15) X (by decide) dX9_plays_15 ?_
    refine vv_icmp_ge (pc := 17) (tgt := 157) X dX9_plays_17 rfl ?_ ?_
    · exact vv_sub [1] (by rfl) (B_X9_plays_157 X _ _)
    · refine vv_aload_n (pc := 20) X (kf := 0) (i := 0) rfl 0 rfl dX9_plays_20 ?_
      refine vv_getR (pc := 21) X (fun _ z => by cases List.mem_singleton.mp z; exact fl_X9_45_7) dX9_plays_21 (fun v2 => ?_)
      refine vv_iload_n (pc := 24) X (kf := 3) (i := 3) rfl 3 rfl dX9_plays_24 ?_
      refine vv_iaload (pc := 25) X dX9_plays_25 (fun v3 => ?_)
      refine vv_bipush (pc := 26) X (by decide) dX9_plays_26 ?_
      refine vv_icmp_ne (pc := 28) (tgt := 50) X dX9_plays_28 rfl ?_ ?_
      · exact B_X9_plays_50 X r6 hr6 _ _ _ _ _
      · refine vv_aload_n (pc := 31) X (kf := 0) (i := 0) rfl 0 rfl dX9_plays_31 ?_
        refine vv_getR (pc := 32) X (fun _ z => by cases List.mem_singleton.mp z; exact fl_X9_48_7) dX9_plays_32 (fun v25 => ?_)
        refine vv_iload_n (pc := 35) X (kf := 3) (i := 3) rfl 3 rfl dX9_plays_35 ?_
        refine vv_iaload (pc := 36) X dX9_plays_36 (fun v26 => ?_)
        refine vv_if_ne (pc := 37) (tgt := 50) X dX9_plays_37 rfl ?_ ?_
        · exact B_X9_plays_50 X r6 hr6 _ _ _ _ _
        · refine vv_aload_n (pc := 40) X (kf := 0) (i := 0) rfl 0 rfl dX9_plays_40 ?_
          refine vv_getR (pc := 41) X (fun _ z => by cases List.mem_singleton.mp z; exact fl_X9_57_7) dX9_plays_41 (fun v27 => ?_)
          refine vv_iload_n (pc := 44) X (kf := 3) (i := 3) rfl 3 rfl dX9_plays_44 ?_
          refine vv_iaload (pc := 45) X dX9_plays_45 (fun v28 => ?_)
          refine vv_istore_n (pc := 46) (lv' := [(3, LI v28), (0, LR x0), (1, LI x1), (2, LI x2)]) X (kf := 3) (i := 3) rfl (by decide) rfl dX9_plays_46 ?_
          refine vv_goto (pc := 47) (tgt := 151) X dX9_plays_47 rfl ?_
          exact vv_sub [1, 2, 3, 0] (by rfl) (B_X9_plays_151 X r6 hr6 _ _ _ _ _)
theorem B_X9_plays_6 {M : hp_M} {G : va_G} {h0 : HP} (X : hp_X M G h0 "RenamedWordsModel" "plays" cX9_plays 4 (some .int) [] 11 339) : ∀ (x0 : Option Nat) (x1 : Int) (x2 : Int) (x3 : Int) (h : HP), vv M G h0 4 (hp_End M G h0) jI h 6 [(0, LR x0), (1, LI x1), (2, LI x2), (3, LI x3)] [] (b_X9_plays_6 x0 x1 x2 x3 h) := by
  unfold b_X9_plays_6
  generalize FU = n
  induction n with
  | zero => intro x0 x1 x2 x3 h; exact vv_none
  | succ n ih => exact C_X9_plays_6 X _ ih
noncomputable def f_X9_plays (a0 : Nat) (h : HP) : Option ((Int) × HP) :=
  b_X9_plays_6 (some a0) 0 0 0 h
theorem A_X9_plays {M : hp_M} {G : va_G} {h0 : HP} (X : hp_X M G h0 "RenamedWordsModel" "plays" cX9_plays 4 (some .int) [] 11 339) (a0 : Nat) (h : HP) : vv M G h0 4 (hp_End M G h0) jI h 0 [(0, LR (some a0))] [] (f_X9_plays a0 h) := by
  unfold f_X9_plays
  refine vv_iconst (pc := 0) X dX9_plays_0 ?_
  refine vv_istore_n (pc := 1) (lv' := [(1, LI 0), (0, LR (some a0))]) X (kf := 1) (i := 1) rfl (by decide) rfl dX9_plays_1 ?_
  refine vv_iconst (pc := 2) X dX9_plays_2 ?_
  refine vv_istore_n (pc := 3) (lv' := [(2, LI 0), (1, LI 0), (0, LR (some a0))]) X (kf := 2) (i := 2) rfl (by decide) rfl dX9_plays_3 ?_
  refine vv_iconst (pc := 4) X dX9_plays_4 ?_
  refine vv_istore_n (pc := 5) (lv' := [(3, LI 0), (2, LI 0), (1, LI 0), (0, LR (some a0))]) X (kf := 3) (i := 3) rfl (by decide) rfl dX9_plays_5 ?_
  exact vv_sub [3, 2, 1, 0] (by rfl) (B_X9_plays_6 X _ _ _ _ _)
theorem m_X9_plays {l : Launch} (hl : l.stackTraces = false) {G : va_G} (a0 : Nat) (h : HP) : ∀ r hf, f_X9_plays a0 h = some (r, hf) → Ct l yX9_plays (ws_ yX9_plays cX9_plays 4 (some .int)) 11 339 G h [.ref a0] (jI r) hf :=
  zz_ofW hl (by decide +kernel) (lv := [(0, LR (some a0))]) (by simp [lv_args, lvL, lvV, zz_rfc, zz_rfs, zz_ci, zz_cr, zz_cj, zz_cf, zz_cd]) (by simp [lg_sl, zz_rfc, zz_ci, zz_cr, zz_cj, zz_cf, zz_cd]) (fun _ X => A_X9_plays X a0 h)
-- X9_play RenamedWordsModel.play()I
noncomputable def f_X9_play (a0 : Nat) (h : HP) : Option ((Int) × HP) :=
  (wrI h (some a0) [7] 7 0).bind fun h1 =>
  (rcv h1 (some a0) [7]).bind fun b4 =>
  hb (f_X9_script b4 h1) fun _ h3 =>
  (rcv h3 (some a0) [7]).bind fun b8 =>
  hb (f_X9_ended b8 h3) fun v6 h7 =>
  iLE 0 v6
    ((rdR h7 (some a0) [7] 0).bind fun v10 =>
    (rcv h7 (some a0) [7]).bind fun b13 =>
    hb (f_X9_remembers b13 v10 h7) fun _ h12 =>
    (rcv h12 (some a0) [7]).bind fun b17 =>
    hb (f_X9_plays b17 h12) fun v15 h16 =>
    some (v15, h16))
    (some (v6, h7))
theorem A_X9_play {M : hp_M} {G : va_G} {h0 : HP} (X : hp_X M G h0 "RenamedWordsModel" "play" cX9_play 2 (some .int) [] 12 370) (a0 : Nat) (h : HP) : vv M G h0 2 (hp_End M G h0) jI h 0 [(0, LR (some a0))] [] (f_X9_play a0 h) := by
  unfold f_X9_play
  refine vv_aload_n (pc := 0) X (kf := 0) (i := 0) rfl 0 rfl dX9_play_0 ?_
  refine vv_iconst (pc := 1) X dX9_play_1 ?_
  refine vv_putI (pc := 2) (fin := false) X (fun _ z => by cases List.mem_singleton.mp z; exact fl_X9_69_7) (fun z => nomatch z) (fun z => nomatch z) dX9_play_2 (fun h1 => ?_)
  refine vv_aload_n (pc := 5) X (kf := 0) (i := 0) rfl 0 rfl dX9_play_5 ?_
  refine vv_rcv (fun b4 t9 c9 fs9 e5 g9 k9 => ?_)
  cases List.mem_singleton.mp k9
  refine vv_callV (pc := 6) (rest := []) (by rw [e5]; rfl) (fun r8 k8 e8 => zz_callV X (m_X9_script (hlM X) _ _ _ _ e8) g9 rfl rfl q3670 q3672 qs71 q164 q3673 nh_X9 rfl (by decide) (by decide) (Nat.le_of_ble_eq_true rfl) dX9_play_6) (fun v2 h3 => ?_)
  refine vv_aload_n (pc := 9) X (kf := 0) (i := 0) rfl 0 rfl dX9_play_9 ?_
  refine vv_rcv (fun b8 t9 c9 fs9 e9 g9 k9 => ?_)
  cases List.mem_singleton.mp k9
  refine vv_callI (pc := 10) (rest := []) (by rw [e9]; rfl) (fun r8 k8 e8 => zz_callV X (m_X9_ended (hlM X) _ _ _ _ e8) g9 rfl rfl q3654 q3656 qs69 q164 q3657 nh_X9 rfl (by decide) (by decide) (Nat.le_of_ble_eq_true rfl) dX9_play_10) (fun v6 h7 => ?_)
  refine vv_istore_n (pc := 13) (lv' := [(1, LI v6), (0, LR (some a0))]) X (kf := 1) (i := 1) rfl (by decide) rfl dX9_play_13 ?_
  refine vv_iload_n (pc := 14) X (kf := 1) (i := 1) rfl 0 rfl dX9_play_14 ?_
  refine vv_if_ge (pc := 15) (tgt := 20) X dX9_play_15 rfl ?_ ?_
  · refine vv_aload_n (pc := 20) X (kf := 0) (i := 0) rfl 1 rfl dX9_play_20 ?_
    refine vv_aload_n (pc := 21) X (kf := 0) (i := 0) rfl 1 rfl dX9_play_21 ?_
    refine vv_getR (pc := 22) X (fun _ z => by cases List.mem_singleton.mp z; exact fl_X9_9_7) dX9_play_22 (fun v10 => ?_)
    refine vv_rcv (fun b13 t9 c9 fs9 e14 g9 k9 => ?_)
    cases List.mem_singleton.mp k9
    refine vv_callV (pc := 25) (rest := []) (by rw [e14]; rfl) (fun r8 k8 e8 => zz_callV X (m_X9_remembers (hlM X) _ _ _ _ _ e8) g9 rfl rfl q3719 q3721 qs81 q164 q3722 nh_X9 rfl (by decide) (by decide) (Nat.le_of_ble_eq_true rfl) dX9_play_25) (fun v11 h12 => ?_)
    refine vv_aload_n (pc := 28) X (kf := 0) (i := 0) rfl 1 rfl dX9_play_28 ?_
    refine vv_rcv (fun b17 t9 c9 fs9 e18 g9 k9 => ?_)
    cases List.mem_singleton.mp k9
    refine vv_callI (pc := 29) (rest := []) (by rw [e18]; rfl) (fun r8 k8 e8 => zz_callV X (m_X9_plays (hlM X) _ _ _ _ e8) g9 rfl rfl q3723 q3725 qs82 q164 q3726 nh_X9 rfl (by decide) (by decide) (Nat.le_of_ble_eq_true rfl) dX9_play_29) (fun v15 h16 => ?_)
    exact vv_iretI X rfl rfl dX9_play_32
  · refine vv_iload_n (pc := 18) X (kf := 1) (i := 1) rfl 0 rfl dX9_play_18 ?_
    exact vv_iretI X rfl rfl dX9_play_19
theorem m_X9_play {l : Launch} (hl : l.stackTraces = false) {G : va_G} (a0 : Nat) (h : HP) : ∀ r hf, f_X9_play a0 h = some (r, hf) → Ct l yX9_play (ws_ yX9_play cX9_play 2 (some .int)) 12 370 G h [.ref a0] (jI r) hf :=
  zz_ofW hl (by decide +kernel) (lv := [(0, LR (some a0))]) (by simp [lv_args, lvL, lvV, zz_rfc, zz_rfs, zz_ci, zz_cr, zz_cj, zz_cf, zz_cd]) (by simp [lg_sl, zz_rfc, zz_ci, zz_cr, zz_cj, zz_cf, zz_cd]) (fun _ X => A_X9_play X a0 h)
-- X1_errorPosition RenamedWords.errorPosition()I
noncomputable def f_X1_errorPosition (a0 : Nat) (h : HP) : Option ((Int) × HP) :=
  (rdI h (some a0) [0] 6).bind fun v1 =>
  some (v1, h)
theorem A_X1_errorPosition {M : hp_M} {G : va_G} {h0 : HP} (X : hp_X M G h0 "RenamedWords" "errorPosition" cX1_errorPosition 1 (some .int) [] 0 0) (a0 : Nat) (h : HP) : vv M G h0 1 (hp_End M G h0) jI h 0 [(0, LR (some a0))] [] (f_X1_errorPosition a0 h) := by
  unfold f_X1_errorPosition
  refine vv_aload_n (pc := 0) X (kf := 0) (i := 0) rfl 0 rfl dX1_errorPosition_0 ?_
  refine vv_getI (pc := 1) X (fun _ z => by cases List.mem_singleton.mp z; exact fl_X1_63_0) dX1_errorPosition_1 (fun v1 => ?_)
  exact vv_iretI X rfl rfl dX1_errorPosition_4
theorem m_X1_errorPosition {l : Launch} (hl : l.stackTraces = false) {G : va_G} (a0 : Nat) (h : HP) : ∀ r hf, f_X1_errorPosition a0 h = some (r, hf) → Ct l yX1_errorPosition (ws_ yX1_errorPosition cX1_errorPosition 1 (some .int)) 0 0 G h [.ref a0] (jI r) hf :=
  zz_ofW hl (by decide +kernel) (lv := [(0, LR (some a0))]) (by simp [lv_args, lvL, lvV, zz_rfc, zz_rfs, zz_ci, zz_cr, zz_cj, zz_cf, zz_cd]) (by simp [lg_sl, zz_rfc, zz_ci, zz_cr, zz_cj, zz_cf, zz_cd]) (fun _ X => A_X1_errorPosition X a0 h)
-- X9_errorPosition RenamedWordsModel.errorPosition()I
noncomputable def f_X9_errorPosition (a0 : Nat) (h : HP) : Option ((Int) × HP) :=
  (wrI h (some a0) [7] 7 0).bind fun h1 =>
  (rdI h1 (some a0) [7] 19).bind fun v2 =>
  some (v2, h1)
theorem A_X9_errorPosition {M : hp_M} {G : va_G} {h0 : HP} (X : hp_X M G h0 "RenamedWordsModel" "errorPosition" cX9_errorPosition 1 (some .int) [] 0 0) (a0 : Nat) (h : HP) : vv M G h0 1 (hp_End M G h0) jI h 0 [(0, LR (some a0))] [] (f_X9_errorPosition a0 h) := by
  unfold f_X9_errorPosition
  refine vv_aload_n (pc := 0) X (kf := 0) (i := 0) rfl 0 rfl dX9_errorPosition_0 ?_
  refine vv_iconst (pc := 1) X dX9_errorPosition_1 ?_
  refine vv_putI (pc := 2) (fin := false) X (fun _ z => by cases List.mem_singleton.mp z; exact fl_X9_69_7) (fun z => nomatch z) (fun z => nomatch z) dX9_errorPosition_2 (fun h1 => ?_)
  refine vv_aload_n (pc := 5) X (kf := 0) (i := 0) rfl 0 rfl dX9_errorPosition_5 ?_
  refine vv_getI (pc := 6) X (fun _ z => by cases List.mem_singleton.mp z; exact fl_X9_41_7) dX9_errorPosition_6 (fun v2 => ?_)
  exact vv_iretI X rfl rfl dX9_errorPosition_9
theorem m_X9_errorPosition {l : Launch} (hl : l.stackTraces = false) {G : va_G} (a0 : Nat) (h : HP) : ∀ r hf, f_X9_errorPosition a0 h = some (r, hf) → Ct l yX9_errorPosition (ws_ yX9_errorPosition cX9_errorPosition 1 (some .int)) 0 0 G h [.ref a0] (jI r) hf :=
  zz_ofW hl (by decide +kernel) (lv := [(0, LR (some a0))]) (by simp [lv_args, lvL, lvV, zz_rfc, zz_rfs, zz_ci, zz_cr, zz_cj, zz_cf, zz_cd]) (by simp [lg_sl, zz_rfc, zz_ci, zz_cr, zz_cj, zz_cf, zz_cd]) (fun _ X => A_X9_errorPosition X a0 h)
-- J19_bitCount java/lang/Integer.bitCount(I)I
noncomputable def f_J19_bitCount (a1 : Int) (h : HP) : Option ((Int) × HP) :=
  some ((iAnd (((iAnd (((iAnd (a1 - (iAnd (iUshr a1 1) 1431655765)) 858993459) + (iAnd (iUshr (a1 - (iAnd (iUshr a1 1) 1431655765)) 2) 858993459)) + (iUshr ((iAnd (a1 - (iAnd (iUshr a1 1) 1431655765)) 858993459) + (iAnd (iUshr (a1 - (iAnd (iUshr a1 1) 1431655765)) 2) 858993459)) 4)) 252645135) + (iUshr (iAnd (((iAnd (a1 - (iAnd (iUshr a1 1) 1431655765)) 858993459) + (iAnd (iUshr (a1 - (iAnd (iUshr a1 1) 1431655765)) 2) 858993459)) + (iUshr ((iAnd (a1 - (iAnd (iUshr a1 1) 1431655765)) 858993459) + (iAnd (iUshr (a1 - (iAnd (iUshr a1 1) 1431655765)) 2) 858993459)) 4)) 252645135) 8)) + (iUshr ((iAnd (((iAnd (a1 - (iAnd (iUshr a1 1) 1431655765)) 858993459) + (iAnd (iUshr (a1 - (iAnd (iUshr a1 1) 1431655765)) 2) 858993459)) + (iUshr ((iAnd (a1 - (iAnd (iUshr a1 1) 1431655765)) 858993459) + (iAnd (iUshr (a1 - (iAnd (iUshr a1 1) 1431655765)) 2) 858993459)) 4)) 252645135) + (iUshr (iAnd (((iAnd (a1 - (iAnd (iUshr a1 1) 1431655765)) 858993459) + (iAnd (iUshr (a1 - (iAnd (iUshr a1 1) 1431655765)) 2) 858993459)) + (iUshr ((iAnd (a1 - (iAnd (iUshr a1 1) 1431655765)) 858993459) + (iAnd (iUshr (a1 - (iAnd (iUshr a1 1) 1431655765)) 2) 858993459)) 4)) 252645135) 8)) 16)) 63), h)
theorem A_J19_bitCount {M : hp_M} {G : va_G} {h0 : HP} (X : hp_X M G h0 "java/lang/Integer" "bitCount" cJ19_bitCount 1 (some .int) [] 0 0) (a1 : Int) (h : HP) : vv M G h0 1 (hp_End M G h0) jI h 0 [(0, LI a1)] [] (f_J19_bitCount a1 h) := by
  unfold f_J19_bitCount
  refine vv_iload_n (pc := 0) X (kf := 0) (i := 0) rfl 0 rfl dJ19_bitCount_0 ?_
  refine vv_iload_n (pc := 1) X (kf := 0) (i := 0) rfl 0 rfl dJ19_bitCount_1 ?_
  refine vv_iconst (pc := 2) X dJ19_bitCount_2 ?_
  refine vv_iushr (pc := 3) X dJ19_bitCount_3 ?_
  refine vv_ldcwI (pc := 4) (n := 1431655765) X q3026 (by decide) dJ19_bitCount_4 ?_
  refine vv_iand (pc := 7) X dJ19_bitCount_7 ?_
  refine vv_isub (pc := 8) X dJ19_bitCount_8 ?_
  refine vv_istore_n (pc := 9) (lv' := [(0, LI (a1 - (iAnd (iUshr a1 1) 1431655765)))]) X (kf := 0) (i := 0) rfl (by decide) rfl dJ19_bitCount_9 ?_
  refine vv_iload_n (pc := 10) X (kf := 0) (i := 0) rfl 0 rfl dJ19_bitCount_10 ?_
  refine vv_ldcwI (pc := 11) (n := 858993459) X q3027 (by decide) dJ19_bitCount_11 ?_
  refine vv_iand (pc := 14) X dJ19_bitCount_14 ?_
  refine vv_iload_n (pc := 15) X (kf := 0) (i := 0) rfl 0 rfl dJ19_bitCount_15 ?_
  refine vv_iconst (pc := 16) X dJ19_bitCount_16 ?_
  refine vv_iushr (pc := 17) X dJ19_bitCount_17 ?_
  refine vv_ldcwI (pc := 18) (n := 858993459) X q3027 (by decide) dJ19_bitCount_18 ?_
  refine vv_iand (pc := 21) X dJ19_bitCount_21 ?_
  refine vv_iadd (pc := 22) X dJ19_bitCount_22 ?_
  refine vv_istore_n (pc := 23) (lv' := [(0, LI ((iAnd (a1 - (iAnd (iUshr a1 1) 1431655765)) 858993459) + (iAnd (iUshr (a1 - (iAnd (iUshr a1 1) 1431655765)) 2) 858993459)))]) X (kf := 0) (i := 0) rfl (by decide) rfl dJ19_bitCount_23 ?_
  refine vv_iload_n (pc := 24) X (kf := 0) (i := 0) rfl 0 rfl dJ19_bitCount_24 ?_
  refine vv_iload_n (pc := 25) X (kf := 0) (i := 0) rfl 0 rfl dJ19_bitCount_25 ?_
  refine vv_iconst (pc := 26) X dJ19_bitCount_26 ?_
  refine vv_iushr (pc := 27) X dJ19_bitCount_27 ?_
  refine vv_iadd (pc := 28) X dJ19_bitCount_28 ?_
  refine vv_ldcwI (pc := 29) (n := 252645135) X q3028 (by decide) dJ19_bitCount_29 ?_
  refine vv_iand (pc := 32) X dJ19_bitCount_32 ?_
  refine vv_istore_n (pc := 33) (lv' := [(0, LI (iAnd (((iAnd (a1 - (iAnd (iUshr a1 1) 1431655765)) 858993459) + (iAnd (iUshr (a1 - (iAnd (iUshr a1 1) 1431655765)) 2) 858993459)) + (iUshr ((iAnd (a1 - (iAnd (iUshr a1 1) 1431655765)) 858993459) + (iAnd (iUshr (a1 - (iAnd (iUshr a1 1) 1431655765)) 2) 858993459)) 4)) 252645135))]) X (kf := 0) (i := 0) rfl (by decide) rfl dJ19_bitCount_33 ?_
  refine vv_iload_n (pc := 34) X (kf := 0) (i := 0) rfl 0 rfl dJ19_bitCount_34 ?_
  refine vv_iload_n (pc := 35) X (kf := 0) (i := 0) rfl 0 rfl dJ19_bitCount_35 ?_
  refine vv_bipush (pc := 36) X (by decide) dJ19_bitCount_36 ?_
  refine vv_iushr (pc := 38) X dJ19_bitCount_38 ?_
  refine vv_iadd (pc := 39) X dJ19_bitCount_39 ?_
  refine vv_istore_n (pc := 40) (lv' := [(0, LI ((iAnd (((iAnd (a1 - (iAnd (iUshr a1 1) 1431655765)) 858993459) + (iAnd (iUshr (a1 - (iAnd (iUshr a1 1) 1431655765)) 2) 858993459)) + (iUshr ((iAnd (a1 - (iAnd (iUshr a1 1) 1431655765)) 858993459) + (iAnd (iUshr (a1 - (iAnd (iUshr a1 1) 1431655765)) 2) 858993459)) 4)) 252645135) + (iUshr (iAnd (((iAnd (a1 - (iAnd (iUshr a1 1) 1431655765)) 858993459) + (iAnd (iUshr (a1 - (iAnd (iUshr a1 1) 1431655765)) 2) 858993459)) + (iUshr ((iAnd (a1 - (iAnd (iUshr a1 1) 1431655765)) 858993459) + (iAnd (iUshr (a1 - (iAnd (iUshr a1 1) 1431655765)) 2) 858993459)) 4)) 252645135) 8)))]) X (kf := 0) (i := 0) rfl (by decide) rfl dJ19_bitCount_40 ?_
  refine vv_iload_n (pc := 41) X (kf := 0) (i := 0) rfl 0 rfl dJ19_bitCount_41 ?_
  refine vv_iload_n (pc := 42) X (kf := 0) (i := 0) rfl 0 rfl dJ19_bitCount_42 ?_
  refine vv_bipush (pc := 43) X (by decide) dJ19_bitCount_43 ?_
  refine vv_iushr (pc := 45) X dJ19_bitCount_45 ?_
  refine vv_iadd (pc := 46) X dJ19_bitCount_46 ?_
  refine vv_istore_n (pc := 47) (lv' := [(0, LI (((iAnd (((iAnd (a1 - (iAnd (iUshr a1 1) 1431655765)) 858993459) + (iAnd (iUshr (a1 - (iAnd (iUshr a1 1) 1431655765)) 2) 858993459)) + (iUshr ((iAnd (a1 - (iAnd (iUshr a1 1) 1431655765)) 858993459) + (iAnd (iUshr (a1 - (iAnd (iUshr a1 1) 1431655765)) 2) 858993459)) 4)) 252645135) + (iUshr (iAnd (((iAnd (a1 - (iAnd (iUshr a1 1) 1431655765)) 858993459) + (iAnd (iUshr (a1 - (iAnd (iUshr a1 1) 1431655765)) 2) 858993459)) + (iUshr ((iAnd (a1 - (iAnd (iUshr a1 1) 1431655765)) 858993459) + (iAnd (iUshr (a1 - (iAnd (iUshr a1 1) 1431655765)) 2) 858993459)) 4)) 252645135) 8)) + (iUshr ((iAnd (((iAnd (a1 - (iAnd (iUshr a1 1) 1431655765)) 858993459) + (iAnd (iUshr (a1 - (iAnd (iUshr a1 1) 1431655765)) 2) 858993459)) + (iUshr ((iAnd (a1 - (iAnd (iUshr a1 1) 1431655765)) 858993459) + (iAnd (iUshr (a1 - (iAnd (iUshr a1 1) 1431655765)) 2) 858993459)) 4)) 252645135) + (iUshr (iAnd (((iAnd (a1 - (iAnd (iUshr a1 1) 1431655765)) 858993459) + (iAnd (iUshr (a1 - (iAnd (iUshr a1 1) 1431655765)) 2) 858993459)) + (iUshr ((iAnd (a1 - (iAnd (iUshr a1 1) 1431655765)) 858993459) + (iAnd (iUshr (a1 - (iAnd (iUshr a1 1) 1431655765)) 2) 858993459)) 4)) 252645135) 8)) 16)))]) X (kf := 0) (i := 0) rfl (by decide) rfl dJ19_bitCount_47 ?_
  refine vv_iload_n (pc := 48) X (kf := 0) (i := 0) rfl 0 rfl dJ19_bitCount_48 ?_
  refine vv_bipush (pc := 49) X (by decide) dJ19_bitCount_49 ?_
  refine vv_iand (pc := 51) X dJ19_bitCount_51 ?_
  exact vv_iretI X rfl rfl dJ19_bitCount_52
theorem m_J19_bitCount {l : Launch} (hl : l.stackTraces = false) {G : va_G} (a1 : Int) (h : HP) : ∀ r hf, f_J19_bitCount a1 h = some (r, hf) → Ct l yJ19_bitCount (ws_ yJ19_bitCount cJ19_bitCount 1 (some .int)) 0 0 G h [.int (iI a1)] (jI r) hf :=
  zz_ofW hl (by decide +kernel) (lv := [(0, LI a1)]) (by simp [lv_args, lvL, lvV, zz_rfc, zz_rfs, zz_ci, zz_cr, zz_cj, zz_cf, zz_cd]) (by simp [lg_sl, zz_rfc, zz_ci, zz_cr, zz_cj, zz_cf, zz_cd]) (fun _ X => A_J19_bitCount X a1 h)
