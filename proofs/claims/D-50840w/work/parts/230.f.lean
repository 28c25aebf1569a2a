/-! STAGE 1c: functions and contracts (printed by gen/mkfuncs.py). -/
set_option maxRecDepth 100000
set_option linter.unusedVariables false
-- X14_unlike RenamedWords$Word.unlike(ZI)I
noncomputable def b_X14_unlike_42 (r5 : Option Nat → Int → Int → Int → Int → HP → Option ((Int) × HP)) (x0 : Option Nat) (x1 : Int) (x2 : Int) (x4 : Int) (s0 : Int) (s1 : Int) (h : HP) : Option ((Int) × HP) :=
  hb (f_X1_one s0 h) fun v1 h2 =>
  r5 x0 x1 x2 (s1 + v1) (x4 + 1) h2
theorem B_X14_unlike_42 {M : hp_M} {G : va_G} {h0 : HP} (X : hp_X M G h0 "RenamedWords$Word" "unlike" cX14_unlike 5 (some .int) [] 1 33) (r5 : Option Nat → Int → Int → Int → Int → HP → Option ((Int) × HP)) (hr5 : ∀ (y0 : Option Nat) (y1 : Int) (y2 : Int) (y3 : Int) (y4 : Int) (h : HP), vv M G h0 5 (hp_End M G h0) jI h 5 [(0, LR y0), (1, LI y1), (2, LI y2), (3, LI y3), (4, LI y4)] [] (r5 y0 y1 y2 y3 y4 h)) (x0 : Option Nat) (x1 : Int) (x2 : Int) (x4 : Int) (s0 : Int) (s1 : Int) (h : HP) : vv M G h0 5 (hp_End M G h0) jI h 42 [(0, LR x0), (1, LI x1), (2, LI x2), (4, LI x4)] [LI s0, LI s1] (b_X14_unlike_42 r5 x0 x1 x2 x4 s0 s1 h) := by
  unfold b_X14_unlike_42
  refine vv_callI (pc := 42) (rest := [LI s1]) (by rfl) (fun r8 k8 e8 => zz_callSN X (m_X1_one (hlM X) _ _ _ _ e8) q3114 q836 q132 q837 nh_X1 rfl (by decide) (by decide) (Nat.le_of_ble_eq_true rfl) dX14_unlike_42) (fun v1 h2 => ?_)
  refine vv_iadd (pc := 45) X dX14_unlike_45 ?_
  refine vv_istore_n (pc := 46) (lv' := [(3, LI (s1 + v1)), (0, LR x0), (1, LI x1), (2, LI x2), (4, LI x4)]) X (kf := 3) (i := 3) rfl (by decide) rfl dX14_unlike_46 ?_
  refine vv_iinc (pc := 47) (lv' := [(4, LI (x4 + 1)), (3, LI (s1 + v1)), (0, LR x0), (1, LI x1), (2, LI x2)]) X 4 rfl (by decide) rfl dX14_unlike_47 ?_
  refine vv_goto (pc := 50) (tgt := 5) X dX14_unlike_50 rfl ?_
  exact vv_sub [2, 3, 4, 1, 0] (by rfl) (hr5 _ _ _ _ _ _)
noncomputable def b_X14_unlike_41 (r5 : Option Nat → Int → Int → Int → Int → HP → Option ((Int) × HP)) (x0 : Option Nat) (x1 : Int) (x2 : Int) (x4 : Int) (s0 : Int) (h : HP) : Option ((Int) × HP) :=
  b_X14_unlike_42 r5 x0 x1 x2 x4 0 s0 h
theorem B_X14_unlike_41 {M : hp_M} {G : va_G} {h0 : HP} (X : hp_X M G h0 "RenamedWords$Word" "unlike" cX14_unlike 5 (some .int) [] 1 33) (r5 : Option Nat → Int → Int → Int → Int → HP → Option ((Int) × HP)) (hr5 : ∀ (y0 : Option Nat) (y1 : Int) (y2 : Int) (y3 : Int) (y4 : Int) (h : HP), vv M G h0 5 (hp_End M G h0) jI h 5 [(0, LR y0), (1, LI y1), (2, LI y2), (3, LI y3), (4, LI y4)] [] (r5 y0 y1 y2 y3 y4 h)) (x0 : Option Nat) (x1 : Int) (x2 : Int) (x4 : Int) (s0 : Int) (h : HP) : vv M G h0 5 (hp_End M G h0) jI h 41 [(0, LR x0), (1, LI x1), (2, LI x2), (4, LI x4)] [LI s0] (b_X14_unlike_41 r5 x0 x1 x2 x4 s0 h) := by
  unfold b_X14_unlike_41
  refine vv_iconst (pc := 41) X dX14_unlike_41 ?_
  exact B_X14_unlike_42 X r5 hr5 _ _ _ _ _ _ _
noncomputable def b_X14_unlike_24 (r5 : Option Nat → Int → Int → Int → Int → HP → Option ((Int) × HP)) (x0 : Option Nat) (x1 : Int) (x2 : Int) (x4 : Int) (s0 : Int) (s1 : Int) (h : HP) : Option ((Int) × HP) :=
  iEQ s0 x1
    ((rcv h x0 [11]).bind fun b5 =>
    hb (f_X14_has b5 x4 h) fun v3 h4 =>
    iEQ v3 0
      (b_X14_unlike_41 r5 x0 x1 x2 x4 s1 h4)
      (b_X14_unlike_42 r5 x0 x1 x2 x4 1 s1 h4))
    (b_X14_unlike_41 r5 x0 x1 x2 x4 s1 h)
theorem B_X14_unlike_24 {M : hp_M} {G : va_G} {h0 : HP} (X : hp_X M G h0 "RenamedWords$Word" "unlike" cX14_unlike 5 (some .int) [] 1 33) (r5 : Option Nat → Int → Int → Int → Int → HP → Option ((Int) × HP)) (hr5 : ∀ (y0 : Option Nat) (y1 : Int) (y2 : Int) (y3 : Int) (y4 : Int) (h : HP), vv M G h0 5 (hp_End M G h0) jI h 5 [(0, LR y0), (1, LI y1), (2, LI y2), (3, LI y3), (4, LI y4)] [] (r5 y0 y1 y2 y3 y4 h)) (x0 : Option Nat) (x1 : Int) (x2 : Int) (x4 : Int) (s0 : Int) (s1 : Int) (h : HP) : vv M G h0 5 (hp_End M G h0) jI h 24 [(0, LR x0), (1, LI x1), (2, LI x2), (4, LI x4)] [LI s0, LI s1] (b_X14_unlike_24 r5 x0 x1 x2 x4 s0 s1 h) := by
  unfold b_X14_unlike_24
  refine vv_iload_n (pc := 24) X (kf := 1) (i := 1) rfl 1 rfl dX14_unlike_24 ?_
  refine vv_icmp_ne (pc := 25) (tgt := 41) X dX14_unlike_25 rfl ?_ ?_
  · exact B_X14_unlike_41 X r5 hr5 _ _ _ _ _ _
  · refine vv_aload_n (pc := 28) X (kf := 0) (i := 0) rfl 0 rfl dX14_unlike_28 ?_
    refine vv_iload (pc := 29) X 3 rfl dX14_unlike_29 ?_
    refine vv_rcv (fun b5 t9 c9 fs9 e6 g9 k9 => ?_)
    cases List.mem_singleton.mp k9
    refine vv_callI (pc := 31) (rest := [LI s1]) (by rw [e6]; rfl) (fun r8 k8 e8 => zz_callV X (m_X14_has (hlM X) _ _ _ _ _ e8) g9 rfl rfl q3110 q3111 q3112 q174 q3113 nh_X14 rfl (by decide) (by decide) (Nat.le_of_ble_eq_true rfl) dX14_unlike_31) (fun v3 h4 => ?_)
    refine vv_if_eq (pc := 34) (tgt := 41) X dX14_unlike_34 rfl ?_ ?_
    · exact B_X14_unlike_41 X r5 hr5 _ _ _ _ _ _
    · refine vv_iconst (pc := 37) X dX14_unlike_37 ?_
      refine vv_goto (pc := 38) (tgt := 42) X dX14_unlike_38 rfl ?_
      exact B_X14_unlike_42 X r5 hr5 _ _ _ _ _ _ _
noncomputable def c_X14_unlike_5 (r5 : Option Nat → Int → Int → Int → Int → HP → Option ((Int) × HP)) (x0 : Option Nat) (x1 : Int) (x2 : Int) (x3 : Int) (x4 : Int) (h : HP) : Option ((Int) × HP) :=
  iLE 26 x4
    (some (x3, h))
    (iLE x2 x4
      (b_X14_unlike_24 r5 x0 x1 x2 x4 0 x3 h)
      (b_X14_unlike_24 r5 x0 x1 x2 x4 1 x3 h))
noncomputable def b_X14_unlike_5 : Option Nat → Int → Int → Int → Int → HP → Option ((Int) × HP) := fx (fun _ _ _ _ _ _ => none) (c_X14_unlike_5) FU
theorem C_X14_unlike_5 {M : hp_M} {G : va_G} {h0 : HP} (X : hp_X M G h0 "RenamedWords$Word" "unlike" cX14_unlike 5 (some .int) [] 1 33) (r5 : Option Nat → Int → Int → Int → Int → HP → Option ((Int) × HP)) (hr5 : ∀ (y0 : Option Nat) (y1 : Int) (y2 : Int) (y3 : Int) (y4 : Int) (h : HP), vv M G h0 5 (hp_End M G h0) jI h 5 [(0, LR y0), (1, LI y1), (2, LI y2), (3, LI y3), (4, LI y4)] [] (r5 y0 y1 y2 y3 y4 h)) (x0 : Option Nat) (x1 : Int) (x2 : Int) (x3 : Int) (x4 : Int) (h : HP) : vv M G h0 5 (hp_End M G h0) jI h 5 [(0, LR x0), (1, LI x1), (2, LI x2), (3, LI x3), (4, LI x4)] [] (c_X14_unlike_5 r5 x0 x1 x2 x3 x4 h) := by
  unfold c_X14_unlike_5
  refine vv_iload (pc := 5) X 4 rfl dX14_unlike_5 ?_
  refine vv_bipush (pc := 7) X (by decide) dX14_unlike_7 ?_
  refine vv_icmp_ge (pc := 9) (tgt := 53) X dX14_unlike_9 rfl ?_ ?_
  · refine vv_iload_n (pc := 53) X (kf := 3) (i := 3) rfl 3 rfl dX14_unlike_53 ?_
    exact vv_iretI X rfl rfl dX14_unlike_54
  · refine vv_iload_n (pc := 12) X (kf := 3) (i := 3) rfl 3 rfl dX14_unlike_12 ?_
    refine vv_iload (pc := 13) X 4 rfl dX14_unlike_13 ?_
    refine vv_iload_n (pc := 15) X (kf := 2) (i := 2) rfl 2 rfl dX14_unlike_15 ?_
    refine vv_icmp_ge (pc := 16) (tgt := 23) X dX14_unlike_16 rfl ?_ ?_
    · refine vv_iconst (pc := 23) X dX14_unlike_23 ?_
      exact vv_sub [0, 1, 2, 4] (by rfl) (B_X14_unlike_24 X r5 hr5 _ _ _ _ _ _ _)
    · refine vv_iconst (pc := 19) X dX14_unlike_19 ?_
      refine vv_goto (pc := 20) (tgt := 24) X dX14_unlike_20 rfl ?_
      exact vv_sub [0, 1, 2, 4] (by rfl) (B_X14_unlike_24 X r5 hr5 _ _ _ _ _ _ _)
theorem B_X14_unlike_5 {M : hp_M} {G : va_G} {h0 : HP} (X : hp_X M G h0 "RenamedWords$Word" "unlike" cX14_unlike 5 (some .int) [] 1 33) : ∀ (x0 : Option Nat) (x1 : Int) (x2 : Int) (x3 : Int) (x4 : Int) (h : HP), vv M G h0 5 (hp_End M G h0) jI h 5 [(0, LR x0), (1, LI x1), (2, LI x2), (3, LI x3), (4, LI x4)] [] (b_X14_unlike_5 x0 x1 x2 x3 x4 h) := by
  unfold b_X14_unlike_5
  generalize FU = n
  induction n with
  | zero => intro x0 x1 x2 x3 x4 h; exact vv_none
  | succ n ih => exact C_X14_unlike_5 X _ ih
noncomputable def f_X14_unlike (a0 : Nat) (a1 : Int) (a2 : Int) (h : HP) : Option ((Int) × HP) :=
  b_X14_unlike_5 (some a0) a1 a2 0 0 h
theorem A_X14_unlike {M : hp_M} {G : va_G} {h0 : HP} (X : hp_X M G h0 "RenamedWords$Word" "unlike" cX14_unlike 5 (some .int) [] 1 33) (a0 : Nat) (a1 : Int) (a2 : Int) (h : HP) : vv M G h0 5 (hp_End M G h0) jI h 0 [(0, LR (some a0)), (1, LI a1), (2, LI a2)] [] (f_X14_unlike a0 a1 a2 h) := by
  unfold f_X14_unlike
  refine vv_iconst (pc := 0) X dX14_unlike_0 ?_
  refine vv_istore_n (pc := 1) (lv' := [(3, LI 0), (0, LR (some a0)), (1, LI a1), (2, LI a2)]) X (kf := 3) (i := 3) rfl (by decide) rfl dX14_unlike_1 ?_
  refine vv_iconst (pc := 2) X dX14_unlike_2 ?_
  refine vv_istore (pc := 3) (lv' := [(4, LI 0), (3, LI 0), (0, LR (some a0)), (1, LI a1), (2, LI a2)]) X (by decide) rfl dX14_unlike_3 ?_
  exact vv_sub [2, 3, 4, 1, 0] (by rfl) (B_X14_unlike_5 X _ _ _ _ _ _)
theorem m_X14_unlike {l : Launch} (hl : l.stackTraces = false) {G : va_G} (a0 : Nat) (a1 : Int) (a2 : Int) (h : HP) : ∀ r hf, f_X14_unlike a0 a1 a2 h = some (r, hf) → Ct l yX14_unlike (ws_ yX14_unlike cX14_unlike 5 (some .int)) 1 33 G h [.ref a0, .int (iI a1), .int (iI a2)] (jI r) hf :=
  zz_ofW hl (by decide +kernel) (lv := [(0, LR (some a0)), (1, LI a1), (2, LI a2)]) (by simp [lv_args, lvL, lvV, zz_rfc, zz_rfs, zz_ci, zz_cr, zz_cj, zz_cf, zz_cd]) (by simp [lg_sl, zz_rfc, zz_ci, zz_cr, zz_cj, zz_cf, zz_cd]) (fun _ X => A_X14_unlike X a0 a1 a2 h)
-- X2_border RenamedWords$Desk.border(II)I
noncomputable def c_X2_border_12 (r12 : Option Nat → Int → Option Nat → Int → HP → Option ((Int) × HP)) (x0 : Option Nat) (x2 : Int) (x3 : Option Nat) (x4 : Int) (h : HP) : Option ((Int) × HP) :=
  iLE x4 0
    (some (0, h))
    ((rdR h x0 [1] 5).bind fun v3 =>
    (rcv h v3 [5]).bind fun b6 =>
    hb (f_X7_lays b6 x3 0 x4 h) fun v4 h5 =>
    (rdR h5 x0 [1] 6).bind fun v8 =>
    (rcv h5 v8 [5]).bind fun b11 =>
    hb (f_X7_lays b11 x3 (x2 - x4) x4 h5) fun v9 h10 =>
    (rdI h10 x0 [1] 7).bind fun v13 =>
    hb (f_X1_match v4 v9 v13 h10) fun v14 h15 =>
    iEQ v14 0
      (r12 x0 x2 x3 (x4 + (-1)) h15)
      (some (x4, h15)))
noncomputable def b_X2_border_12 : Option Nat → Int → Option Nat → Int → HP → Option ((Int) × HP) := fx (fun _ _ _ _ _ => none) (c_X2_border_12) FU
theorem C_X2_border_12 {M : hp_M} {G : va_G} {h0 : HP} (X : hp_X M G h0 "RenamedWords$Desk" "border" cX2_border 5 (some .int) [] 7 213) (r12 : Option Nat → Int → Option Nat → Int → HP → Option ((Int) × HP)) (hr12 : ∀ (y0 : Option Nat) (y2 : Int) (y3 : Option Nat) (y4 : Int) (h : HP), vv M G h0 5 (hp_End M G h0) jI h 12 [(0, LR y0), (2, LI y2), (3, LR y3), (4, LI y4)] [] (r12 y0 y2 y3 y4 h)) (x0 : Option Nat) (x2 : Int) (x3 : Option Nat) (x4 : Int) (h : HP) : vv M G h0 5 (hp_End M G h0) jI h 12 [(0, LR x0), (2, LI x2), (3, LR x3), (4, LI x4)] [] (c_X2_border_12 r12 x0 x2 x3 x4 h) := by
  unfold c_X2_border_12
  refine vv_iload (pc := 12) X 3 rfl dX2_border_12 ?_
  refine vv_if_le (pc := 14) (tgt := 61) X dX2_border_14 rfl ?_ ?_
  · refine vv_iconst (pc := 61) X dX2_border_61 ?_
    exact vv_iretI X rfl rfl dX2_border_62
  · refine vv_aload_n (pc := 17) X (kf := 0) (i := 0) rfl 0 rfl dX2_border_17 ?_
    refine vv_getR (pc := 18) X (fun _ z => by cases List.mem_singleton.mp z; exact fl_X2_38_1) dX2_border_18 (fun v3 => ?_)
    refine vv_aload_n (pc := 21) X (kf := 3) (i := 3) rfl 2 rfl dX2_border_21 ?_
    refine vv_iconst (pc := 22) X dX2_border_22 ?_
    refine vv_iload (pc := 23) X 3 rfl dX2_border_23 ?_
    refine vv_rcv (fun b6 t9 c9 fs9 e7 g9 k9 => ?_)
    cases List.mem_singleton.mp k9
    refine vv_callR (pc := 25) (rest := []) (by rw [e7]; rfl) (fun r8 k8 e8 => zz_callV X (m_X7_lays (hlM X) _ _ _ _ _ _ _ e8) g9 rfl rfl q2604 q2605 q2606 q159 q2607 nh_X7 rfl (by decide) (by decide) (Nat.le_of_ble_eq_true rfl) dX2_border_25) (fun v4 h5 => ?_)
    refine vv_aload_n (pc := 28) X (kf := 0) (i := 0) rfl 0 rfl dX2_border_28 ?_
    refine vv_getR (pc := 29) X (fun _ z => by cases List.mem_singleton.mp z; exact fl_X2_42_1) dX2_border_29 (fun v8 => ?_)
    refine vv_aload_n (pc := 32) X (kf := 3) (i := 3) rfl 2 rfl dX2_border_32 ?_
    refine vv_iload_n (pc := 33) X (kf := 2) (i := 2) rfl 1 rfl dX2_border_33 ?_
    refine vv_iload (pc := 34) X 3 rfl dX2_border_34 ?_
    refine vv_isub (pc := 36) X dX2_border_36 ?_
    refine vv_iload (pc := 37) X 3 rfl dX2_border_37 ?_
    refine vv_rcv (fun b11 t9 c9 fs9 e12 g9 k9 => ?_)
    cases List.mem_singleton.mp k9
    refine vv_callR (pc := 39) (rest := [LR v4]) (by rw [e12]; rfl) (fun r8 k8 e8 => zz_callV X (m_X7_lays (hlM X) _ _ _ _ _ _ _ e8) g9 rfl rfl q2604 q2605 q2606 q159 q2607 nh_X7 rfl (by decide) (by decide) (Nat.le_of_ble_eq_true rfl) dX2_border_39) (fun v9 h10 => ?_)
    refine vv_aload_n (pc := 42) X (kf := 0) (i := 0) rfl 0 rfl dX2_border_42 ?_
    refine vv_getI (pc := 43) X (fun _ z => by cases List.mem_singleton.mp z; exact fl_X2_108_1) dX2_border_43 (fun v13 => ?_)
    refine vv_callI (pc := 46) (rest := []) (by rfl) (fun r8 k8 e8 => zz_callSN X (m_X1_match (hlM X) _ _ _ _ _ _ e8) q2608 q2609 q132 q2610 nh_X1 rfl (by decide) (by decide) (Nat.le_of_ble_eq_true rfl) dX2_border_46) (fun v14 h15 => ?_)
    refine vv_if_eq (pc := 49) (tgt := 55) X dX2_border_49 rfl ?_ ?_
    · refine vv_iinc (pc := 55) (lv' := [(4, LI (x4 + (-1))), (0, LR x0), (2, LI x2), (3, LR x3)]) X 3 rfl (by decide) rfl dX2_border_55 ?_
      refine vv_goto (pc := 58) (tgt := 12) X dX2_border_58 rfl ?_
      exact vv_sub [1, 2, 3, 0] (by rfl) (hr12 _ _ _ _ _)
    · refine vv_iload (pc := 52) X 3 rfl dX2_border_52 ?_
      exact vv_iretI X rfl rfl dX2_border_54
theorem B_X2_border_12 {M : hp_M} {G : va_G} {h0 : HP} (X : hp_X M G h0 "RenamedWords$Desk" "border" cX2_border 5 (some .int) [] 7 213) : ∀ (x0 : Option Nat) (x2 : Int) (x3 : Option Nat) (x4 : Int) (h : HP), vv M G h0 5 (hp_End M G h0) jI h 12 [(0, LR x0), (2, LI x2), (3, LR x3), (4, LI x4)] [] (b_X2_border_12 x0 x2 x3 x4 h) := by
  unfold b_X2_border_12
  generalize FU = n
  induction n with
  | zero => intro x0 x2 x3 x4 h; exact vv_none
  | succ n ih => exact C_X2_border_12 X _ ih
noncomputable def f_X2_border (a0 : Nat) (a1 : Int) (a2 : Int) (h : HP) : Option ((Int) × HP) :=
  (rdR h (some a0) [1] 2).bind fun v1 =>
  (aldR h "RenamedWords$Word" v1 a1).bind fun v2 =>
  b_X2_border_12 (some a0) a2 v2 (a2 - 1) h
theorem A_X2_border {M : hp_M} {G : va_G} {h0 : HP} (X : hp_X M G h0 "RenamedWords$Desk" "border" cX2_border 5 (some .int) [] 7 213) (a0 : Nat) (a1 : Int) (a2 : Int) (h : HP) : vv M G h0 5 (hp_End M G h0) jI h 0 [(0, LR (some a0)), (1, LI a1), (2, LI a2)] [] (f_X2_border a0 a1 a2 h) := by
  unfold f_X2_border
  refine vv_aload_n (pc := 0) X (kf := 0) (i := 0) rfl 0 rfl dX2_border_0 ?_
  refine vv_getR (pc := 1) X (fun _ z => by cases List.mem_singleton.mp z; exact fl_X2_20_1) dX2_border_1 (fun v1 => ?_)
  refine vv_iload_n (pc := 4) X (kf := 1) (i := 1) rfl 1 rfl dX2_border_4 ?_
  refine vv_aaload (pc := 5) X dX2_border_5 (fun v2 => ?_)
  refine vv_astore_n (pc := 6) (lv' := [(3, LR v2), (0, LR (some a0)), (1, LI a1), (2, LI a2)]) X (kf := 3) (i := 3) rfl (by decide) rfl dX2_border_6 ?_
  refine vv_iload_n (pc := 7) X (kf := 2) (i := 2) rfl 3 rfl dX2_border_7 ?_
  refine vv_iconst (pc := 8) X dX2_border_8 ?_
  refine vv_isub (pc := 9) X dX2_border_9 ?_
  refine vv_istore (pc := 10) (lv' := [(4, LI (a2 - 1)), (3, LR v2), (0, LR (some a0)), (1, LI a1), (2, LI a2)]) X (by decide) rfl dX2_border_10 ?_
  exact vv_sub [2, 4, 1, 0] (by rfl) (B_X2_border_12 X _ _ _ _ _)
theorem m_X2_border {l : Launch} (hl : l.stackTraces = false) {G : va_G} (a0 : Nat) (a1 : Int) (a2 : Int) (h : HP) : ∀ r hf, f_X2_border a0 a1 a2 h = some (r, hf) → Ct l yX2_border (ws_ yX2_border cX2_border 5 (some .int)) 7 213 G h [.ref a0, .int (iI a1), .int (iI a2)] (jI r) hf :=
  zz_ofW hl (by decide +kernel) (lv := [(0, LR (some a0)), (1, LI a1), (2, LI a2)]) (by simp [lv_args, lvL, lvV, zz_rfc, zz_rfs, zz_ci, zz_cr, zz_cj, zz_cf, zz_cd]) (by simp [lg_sl, zz_rfc, zz_ci, zz_cr, zz_cj, zz_cf, zz_cd]) (fun _ X => A_X2_border X a0 a1 a2 h)
-- X6_manyOf RenamedWords$Marks.manyOf(I)I
noncomputable def b_X6_manyOf_25 (r7 : Int → Int → Option Nat → HP → Option ((Int) × HP)) (x1 : Int) (x3 : Option Nat) (s0 : Int) (s1 : Int) (h : HP) : Option ((Int) × HP) :=
  hb (f_X1_one s0 h) fun v3 h4 =>
  (rdR h4 x3 [22] 2).bind fun v5 =>
  r7 x1 (s1 + v3) v5 h4
theorem B_X6_manyOf_25 {M : hp_M} {G : va_G} {h0 : HP} (X : hp_X M G h0 "RenamedWords$Marks" "manyOf" cX6_manyOf 4 (some .int) [] 1 28) (r7 : Int → Int → Option Nat → HP → Option ((Int) × HP)) (hr7 : ∀ (y1 : Int) (y2 : Int) (y3 : Option Nat) (h : HP), vv M G h0 4 (hp_End M G h0) jI h 7 [(1, LI y1), (2, LI y2), (3, LR y3)] [] (r7 y1 y2 y3 h)) (x1 : Int) (x3 : Option Nat) (s0 : Int) (s1 : Int) (h : HP) : vv M G h0 4 (hp_End M G h0) jI h 25 [(1, LI x1), (3, LR x3)] [LI s0, LI s1] (b_X6_manyOf_25 r7 x1 x3 s0 s1 h) := by
  unfold b_X6_manyOf_25
  refine vv_callI (pc := 25) (rest := [LI s1]) (by rfl) (fun r8 k8 e8 => zz_callSN X (m_X1_one (hlM X) _ _ _ _ e8) q3123 q836 q132 q837 nh_X1 rfl (by decide) (by decide) (Nat.le_of_ble_eq_true rfl) dX6_manyOf_25) (fun v3 h4 => ?_)
  refine vv_iadd (pc := 28) X dX6_manyOf_28 ?_
  refine vv_istore_n (pc := 29) (lv' := [(2, LI (s1 + v3)), (1, LI x1), (3, LR x3)]) X (kf := 2) (i := 2) rfl (by decide) rfl dX6_manyOf_29 ?_
  refine vv_aload_n (pc := 30) X (kf := 3) (i := 3) rfl 2 rfl dX6_manyOf_30 ?_
  refine vv_getR (pc := 31) X (fun _ z => by cases List.mem_singleton.mp z; exact fl_X6_16_22) dX6_manyOf_31 (fun v5 => ?_)
  refine vv_astore_n (pc := 34) (lv' := [(3, LR v5), (2, LI (s1 + v3)), (1, LI x1)]) X (kf := 3) (i := 3) rfl (by decide) rfl dX6_manyOf_34 ?_
  refine vv_goto (pc := 35) (tgt := 7) X dX6_manyOf_35 rfl ?_
  exact vv_sub [2, 1, 0] (by rfl) (hr7 _ _ _ _)
noncomputable def c_X6_manyOf_7 (r7 : Int → Int → Option Nat → HP → Option ((Int) × HP)) (x1 : Int) (x2 : Int) (x3 : Option Nat) (h : HP) : Option ((Int) × HP) :=
  rNU x3
    (some (x2, h))
    ((rdI h x3 [22] 0).bind fun v2 =>
    iEQ v2 x1
      (b_X6_manyOf_25 r7 x1 x3 1 x2 h)
      (b_X6_manyOf_25 r7 x1 x3 0 x2 h))
noncomputable def b_X6_manyOf_7 : Int → Int → Option Nat → HP → Option ((Int) × HP) := fx (fun _ _ _ _ => none) (c_X6_manyOf_7) FU
theorem C_X6_manyOf_7 {M : hp_M} {G : va_G} {h0 : HP} (X : hp_X M G h0 "RenamedWords$Marks" "manyOf" cX6_manyOf 4 (some .int) [] 1 28) (r7 : Int → Int → Option Nat → HP → Option ((Int) × HP)) (hr7 : ∀ (y1 : Int) (y2 : Int) (y3 : Option Nat) (h : HP), vv M G h0 4 (hp_End M G h0) jI h 7 [(1, LI y1), (2, LI y2), (3, LR y3)] [] (r7 y1 y2 y3 h)) (x1 : Int) (x2 : Int) (x3 : Option Nat) (h : HP) : vv M G h0 4 (hp_End M G h0) jI h 7 [(1, LI x1), (2, LI x2), (3, LR x3)] [] (c_X6_manyOf_7 r7 x1 x2 x3 h) := by
  unfold c_X6_manyOf_7
  refine vv_aload_n (pc := 7) X (kf := 3) (i := 3) rfl 2 rfl dX6_manyOf_7 ?_
  refine vv_ifnull (pc := 8) (tgt := 38) X dX6_manyOf_8 rfl ?_ ?_
  · refine vv_iload_n (pc := 38) X (kf := 2) (i := 2) rfl 1 rfl dX6_manyOf_38 ?_
    exact vv_iretI X rfl rfl dX6_manyOf_39
  · refine vv_iload_n (pc := 11) X (kf := 2) (i := 2) rfl 1 rfl dX6_manyOf_11 ?_
    refine vv_aload_n (pc := 12) X (kf := 3) (i := 3) rfl 2 rfl dX6_manyOf_12 ?_
    refine vv_getI (pc := 13) X (fun _ z => by cases List.mem_singleton.mp z; exact fl_X6_43_22) dX6_manyOf_13 (fun v2 => ?_)
    refine vv_iload_n (pc := 16) X (kf := 1) (i := 1) rfl 0 rfl dX6_manyOf_16 ?_
    refine vv_icmp_ne (pc := 17) (tgt := 24) X dX6_manyOf_17 rfl ?_ ?_
    · refine vv_iconst (pc := 24) X dX6_manyOf_24 ?_
      exact vv_sub [0, 2] (by rfl) (B_X6_manyOf_25 X r7 hr7 _ _ _ _ _)
    · refine vv_iconst (pc := 20) X dX6_manyOf_20 ?_
      refine vv_goto (pc := 21) (tgt := 25) X dX6_manyOf_21 rfl ?_
      exact vv_sub [0, 2] (by rfl) (B_X6_manyOf_25 X r7 hr7 _ _ _ _ _)
theorem B_X6_manyOf_7 {M : hp_M} {G : va_G} {h0 : HP} (X : hp_X M G h0 "RenamedWords$Marks" "manyOf" cX6_manyOf 4 (some .int) [] 1 28) : ∀ (x1 : Int) (x2 : Int) (x3 : Option Nat) (h : HP), vv M G h0 4 (hp_End M G h0) jI h 7 [(1, LI x1), (2, LI x2), (3, LR x3)] [] (b_X6_manyOf_7 x1 x2 x3 h) := by
  unfold b_X6_manyOf_7
  generalize FU = n
  induction n with
  | zero => intro x1 x2 x3 h; exact vv_none
  | succ n ih => exact C_X6_manyOf_7 X _ ih
noncomputable def f_X6_manyOf (a0 : Nat) (a1 : Int) (h : HP) : Option ((Int) × HP) :=
  (rdR h (some a0) [4] 0).bind fun v1 =>
  b_X6_manyOf_7 a1 0 v1 h
theorem A_X6_manyOf {M : hp_M} {G : va_G} {h0 : HP} (X : hp_X M G h0 "RenamedWords$Marks" "manyOf" cX6_manyOf 4 (some .int) [] 1 28) (a0 : Nat) (a1 : Int) (h : HP) : vv M G h0 4 (hp_End M G h0) jI h 0 [(0, LR (some a0)), (1, LI a1)] [] (f_X6_manyOf a0 a1 h) := by
  unfold f_X6_manyOf
  refine vv_iconst (pc := 0) X dX6_manyOf_0 ?_
  refine vv_istore_n (pc := 1) (lv' := [(2, LI 0), (0, LR (some a0)), (1, LI a1)]) X (kf := 2) (i := 2) rfl (by decide) rfl dX6_manyOf_1 ?_
  refine vv_aload_n (pc := 2) X (kf := 0) (i := 0) rfl 1 rfl dX6_manyOf_2 ?_
  refine vv_getR (pc := 3) X (fun _ z => by cases List.mem_singleton.mp z; exact fl_X6_7_4) dX6_manyOf_3 (fun v1 => ?_)
  refine vv_astore_n (pc := 6) (lv' := [(3, LR v1), (2, LI 0), (0, LR (some a0)), (1, LI a1)]) X (kf := 3) (i := 3) rfl (by decide) rfl dX6_manyOf_6 ?_
  exact vv_sub [3, 1, 0] (by rfl) (B_X6_manyOf_7 X _ _ _ _)
theorem m_X6_manyOf {l : Launch} (hl : l.stackTraces = false) {G : va_G} (a0 : Nat) (a1 : Int) (h : HP) : ∀ r hf, f_X6_manyOf a0 a1 h = some (r, hf) → Ct l yX6_manyOf (ws_ yX6_manyOf cX6_manyOf 4 (some .int)) 1 28 G h [.ref a0, .int (iI a1)] (jI r) hf :=
  zz_ofW hl (by decide +kernel) (lv := [(0, LR (some a0)), (1, LI a1)]) (by simp [lv_args, lvL, lvV, zz_rfc, zz_rfs, zz_ci, zz_cr, zz_cj, zz_cf, zz_cd]) (by simp [lg_sl, zz_rfc, zz_ci, zz_cr, zz_cj, zz_cf, zz_cd]) (fun _ X => A_X6_manyOf X a0 a1 h)
-- J40_wordIndex java/util/BitSet.wordIndex(I)I
noncomputable def f_J40_wordIndex (a1 : Int) (h : HP) : Option ((Int) × HP) :=
  some ((iShr a1 6), h)
theorem A_J40_wordIndex {M : hp_M} {G : va_G} {h0 : HP} (X : hp_X M G h0 "java/util/BitSet" "wordIndex" cJ40_wordIndex 1 (some .int) [] 0 0) (a1 : Int) (h : HP) : vv M G h0 1 (hp_End M G h0) jI h 0 [(0, LI a1)] [] (f_J40_wordIndex a1 h) := by
  unfold f_J40_wordIndex
  refine vv_iload_n (pc := 0) X (kf := 0) (i := 0) rfl 0 rfl dJ40_wordIndex_0 ?_
  refine vv_bipush (pc := 1) X (by decide) dJ40_wordIndex_1 ?_
  refine vv_ishr (pc := 3) X dJ40_wordIndex_3 ?_
  exact vv_iretI X rfl rfl dJ40_wordIndex_4
theorem m_J40_wordIndex {l : Launch} (hl : l.stackTraces = false) {G : va_G} (a1 : Int) (h : HP) : ∀ r hf, f_J40_wordIndex a1 h = some (r, hf) → Ct l yJ40_wordIndex (ws_ yJ40_wordIndex cJ40_wordIndex 1 (some .int)) 0 0 G h [.int (iI a1)] (jI r) hf :=
  zz_ofW hl (by decide +kernel) (lv := [(0, LI a1)]) (by simp [lv_args, lvL, lvV, zz_rfc, zz_rfs, zz_ci, zz_cr, zz_cj, zz_cf, zz_cd]) (by simp [lg_sl, zz_rfc, zz_ci, zz_cr, zz_cj, zz_cf, zz_cd]) (fun _ X => A_J40_wordIndex X a1 h)
-- J40_initWords java/util/BitSet.initWords(I)V
noncomputable def f_J40_initWords (a0 : Nat) (a1 : Int) (h : HP) : Option ((Unit) × HP) :=
  hb (f_J40_wordIndex (a1 - 1) h) fun v1 h2 =>
  hb (nwJ h2 (tgR h2 (some a0)) (v1 + 1)) fun v3 h4 =>
  (wrR h4 (some a0) [33] 0 v3).bind fun h5 =>
  some ((), h5)
theorem A_J40_initWords {M : hp_M} {G : va_G} {h0 : HP} (X : hp_X M G h0 "java/util/BitSet" "initWords" cJ40_initWords 2 none [] 1 28) (a0 : Nat) (a1 : Int) (h : HP) : vv M G h0 2 (hp_End M G h0) jV h 0 [(0, LR (some a0)), (1, LI a1)] [] (f_J40_initWords a0 a1 h) := by
  unfold f_J40_initWords
  refine vv_aload_n (pc := 0) X (kf := 0) (i := 0) rfl 0 rfl dJ40_initWords_0 ?_
  refine vv_iload_n (pc := 1) X (kf := 1) (i := 1) rfl 1 rfl dJ40_initWords_1 ?_
  refine vv_iconst (pc := 2) X dJ40_initWords_2 ?_
  refine vv_isub (pc := 3) X dJ40_initWords_3 ?_
  refine vv_callI (pc := 4) (rest := [LR (some a0)]) (by rfl) (fun r8 k8 e8 => zz_callS X (m_J40_wordIndex (hlM X) _ _ _ _ e8) q2861 q2862 q204 q2863 nh_J40 rfl (by decide) (by decide) (Nat.le_of_ble_eq_true rfl) dJ40_initWords_4) (fun v1 h2 => ?_)
  refine vv_iconst (pc := 7) X dJ40_initWords_7 ?_
  refine vv_iadd (pc := 8) X dJ40_initWords_8 ?_
  refine vv_newlong (pc := 9) X dJ40_initWords_9 (fun v3 h4 => ?_)
  refine vv_putR (pc := 11) (ty9 := (.array .long)) (fin := false) X (fun _ z => by cases List.mem_singleton.mp z; exact fl_J40_11_33) (fun z => nomatch z) (fun z => nomatch z) (by decide +kernel) rfl dJ40_initWords_11 (fun h5 => ?_)
  exact vv_vreturn X rfl rfl dJ40_initWords_14
theorem m_J40_initWords {l : Launch} (hl : l.stackTraces = false) {G : va_G} (a0 : Nat) (a1 : Int) (h : HP) : ∀ r hf, f_J40_initWords a0 a1 h = some (r, hf) → Ct l yJ40_initWords (ws_ yJ40_initWords cJ40_initWords 2 none) 1 28 G h [.ref a0, .int (iI a1)] (jV r) hf :=
  zz_ofW hl (by decide +kernel) (lv := [(0, LR (some a0)), (1, LI a1)]) (by simp [lv_args, lvL, lvV, zz_rfc, zz_rfs, zz_ci, zz_cr, zz_cj, zz_cf, zz_cd]) (by simp [lg_sl, zz_rfc, zz_ci, zz_cr, zz_cj, zz_cf, zz_cd]) (fun _ X => A_J40_initWords X a0 a1 h)
-- J40_init java/util/BitSet.<init>(I)V
noncomputable def f_J40_init (a0 : Nat) (a1 : Int) (h : HP) : Option ((Unit) × HP) :=
  (wrI h (some a0) [33] 1 0).bind fun h1 =>
  (wrZ h1 (some a0) [33] 2 0).bind fun h2 =>
  iLE 0 a1
    ((rcv h2 (some a0) [33]).bind fun b5 =>
    hb (f_J40_initWords b5 a1 h2) fun _ h4 =>
    (wrZ h4 (some a0) [33] 2 1).bind fun h7 =>
    some ((), h7))
    (none)
theorem A_J40_init {M : hp_M} {G : va_G} {h0 : HP} (X : hp_X M G h0 "java/util/BitSet" "<init>" cJ40_init 2 none [] 2 57) (a0 : Nat) (a1 : Int) (h : HP) : vv M G h0 2 (hp_End M G h0) jV h 0 [(0, LR (some a0)), (1, LI a1)] [] (f_J40_init a0 a1 h) := by
  unfold f_J40_init
  refine vv_aload_n (pc := 0) X (kf := 0) (i := 0) rfl 0 rfl dJ40_init_0 ?_
  refine vv_objInit (pc := 1) X rfl q2856 q212 q213 (by decide) (by decide) (Nat.le_of_ble_eq_true rfl) dJ40_init_1 ?_
  refine vv_aload_n (pc := 4) X (kf := 0) (i := 0) rfl 0 rfl dJ40_init_4 ?_
  refine vv_iconst (pc := 5) X dJ40_init_5 ?_
  refine vv_putI (pc := 6) (fin := false) X (fun _ z => by cases List.mem_singleton.mp z; exact fl_J40_7_33) (fun z => nomatch z) (fun z => nomatch z) dJ40_init_6 (fun h1 => ?_)
  refine vv_aload_n (pc := 9) X (kf := 0) (i := 0) rfl 0 rfl dJ40_init_9 ?_
  refine vv_iconst (pc := 10) X dJ40_init_10 ?_
  refine vv_putZ (pc := 11) (fin := false) X (fun _ z => by cases List.mem_singleton.mp z; exact fl_J40_24_33) (fun z => nomatch z) (fun z => nomatch z) dJ40_init_11 (fun h2 => ?_)
  refine vv_iload_n (pc := 14) X (kf := 1) (i := 1) rfl 1 rfl dJ40_init_14 ?_
  refine vv_if_ge (pc := 15) (tgt := 45) X dJ40_init_15 rfl ?_ ?_
  · refine vv_aload_n (pc := 45) X (kf := 0) (i := 0) rfl 0 rfl dJ40_init_45 ?_
    refine vv_iload_n (pc := 46) X (kf := 1) (i := 1) rfl 1 rfl dJ40_init_46 ?_
    refine vv_rcv (fun b5 t9 c9 fs9 e6 g9 k9 => ?_)
    cases List.mem_singleton.mp k9
    refine vv_callV (pc := 47) (rest := []) (by rw [e6]; rfl) (fun r8 k8 e8 => zz_callV X (m_J40_initWords (hlM X) _ _ _ _ _ e8) g9 rfl rfl q2857 q2859 qs39 q204 q2860 nh_J40 rfl (by decide) (by decide) (Nat.le_of_ble_eq_true rfl) dJ40_init_47) (fun v3 h4 => ?_)
    refine vv_aload_n (pc := 50) X (kf := 0) (i := 0) rfl 0 rfl dJ40_init_50 ?_
    refine vv_iconst (pc := 51) X dJ40_init_51 ?_
    refine vv_putZ (pc := 52) (fin := false) X (fun _ z => by cases List.mem_singleton.mp z; exact fl_J40_24_33) (fun z => nomatch z) (fun z => nomatch z) dJ40_init_52 (fun h7 => ?_)
    exact vv_vreturn X rfl rfl dJ40_init_55
  · exact vv_none
theorem m_J40_init {l : Launch} (hl : l.stackTraces = false) {G : va_G} (a0 : Nat) (a1 : Int) (h : HP) : ∀ r hf, f_J40_init a0 a1 h = some (r, hf) → Ct l yJ40_init (ws_ yJ40_init cJ40_init 2 none) 2 57 G h [.ref a0, .int (iI a1)] (jV r) hf :=
  zz_ofW hl (by decide +kernel) (lv := [(0, LR (some a0)), (1, LI a1)]) (by simp [lv_args, lvL, lvV, zz_rfc, zz_rfs, zz_ci, zz_cr, zz_cj, zz_cf, zz_cd]) (by simp [lg_sl, zz_rfc, zz_ci, zz_cr, zz_cj, zz_cf, zz_cd]) (fun _ X => A_J40_init X a0 a1 h)
-- X8_of RenamedWords$Inventory.of(LRenamedWords$Row;I)LRenamedWords$Inventory;
noncomputable def c_X8_of_76 (r76 : Option Nat → Int → HP → Option ((Option Nat) × HP)) (x0 : Option Nat) (x3 : Int) (h : HP) : Option ((Option Nat) × HP) :=
  iLE 26 x3
    (some (x0, h))
    ((rdR h x0 [6] 1).bind fun v9 =>
    (rdR h x0 [6] 0).bind fun v10 =>
    (aldI h .int v10 x3).bind fun v11 =>
    (aldI h .int v9 v11).bind fun v12 =>
    (astI h .int v9 v11 (v12 + 1)).bind fun h13 =>
    r76 x0 (x3 + 1) h13)
noncomputable def b_X8_of_76 : Option Nat → Int → HP → Option ((Option Nat) × HP) := fx (fun _ _ _ => none) (c_X8_of_76) FU
theorem C_X8_of_76 {M : hp_M} {G : va_G} {h0 : HP} (X : hp_X M G h0 "RenamedWords$Inventory" "of" cX8_of 4 (some (.object "RenamedWords$Inventory")) [] 2 58) (r76 : Option Nat → Int → HP → Option ((Option Nat) × HP)) (hr76 : ∀ (y0 : Option Nat) (y3 : Int) (h : HP), vv M G h0 4 (hp_End M G h0) jR h 76 [(0, LR y0), (3, LI y3)] [] (r76 y0 y3 h)) (x0 : Option Nat) (x3 : Int) (h : HP) : vv M G h0 4 (hp_End M G h0) jR h 76 [(0, LR x0), (3, LI x3)] [] (c_X8_of_76 r76 x0 x3 h) := by
  unfold c_X8_of_76
  refine vv_iload_n (pc := 76) X (kf := 3) (i := 3) rfl 1 rfl dX8_of_76 ?_
  refine vv_bipush (pc := 77) X (by decide) dX8_of_77 ?_
  refine vv_icmp_ge (pc := 79) (tgt := 103) X dX8_of_79 rfl ?_ ?_
  · refine vv_aload_n (pc := 103) X (kf := 0) (i := 0) rfl 0 rfl dX8_of_103 ?_
    exact vv_aretO X rfl rfl dX8_of_104
  · refine vv_aload_n (pc := 82) X (kf := 0) (i := 0) rfl 0 rfl dX8_of_82 ?_
    refine vv_getR (pc := 83) X (fun _ z => by cases List.mem_singleton.mp z; exact fl_X8_15_6) dX8_of_83 (fun v9 => ?_)
    refine vv_aload_n (pc := 86) X (kf := 0) (i := 0) rfl 0 rfl dX8_of_86 ?_
    refine vv_getR (pc := 87) X (fun _ z => by cases List.mem_singleton.mp z; exact fl_X8_9_6) dX8_of_87 (fun v10 => ?_)
    refine vv_iload_n (pc := 90) X (kf := 3) (i := 3) rfl 1 rfl dX8_of_90 ?_
    refine vv_iaload (pc := 91) X dX8_of_91 (fun v11 => ?_)
    refine vv_dup2 (pc := 92) X rfl rfl dX8_of_92 ?_
    refine vv_iaload (pc := 93) X dX8_of_93 (fun v12 => ?_)
    refine vv_iconst (pc := 94) X dX8_of_94 ?_
    refine vv_iadd (pc := 95) X dX8_of_95 ?_
    refine vv_iastore (pc := 96) X dX8_of_96 (fun h13 => ?_)
    refine vv_iinc (pc := 97) (lv' := [(3, LI (x3 + 1)), (0, LR x0)]) X 1 rfl (by decide) rfl dX8_of_97 ?_
    refine vv_goto (pc := 100) (tgt := 76) X dX8_of_100 rfl ?_
    exact vv_sub [1, 0] (by rfl) (hr76 _ _ _)
theorem B_X8_of_76 {M : hp_M} {G : va_G} {h0 : HP} (X : hp_X M G h0 "RenamedWords$Inventory" "of" cX8_of 4 (some (.object "RenamedWords$Inventory")) [] 2 58) : ∀ (x0 : Option Nat) (x3 : Int) (h : HP), vv M G h0 4 (hp_End M G h0) jR h 76 [(0, LR x0), (3, LI x3)] [] (b_X8_of_76 x0 x3 h) := by
  unfold b_X8_of_76
  generalize FU = n
  induction n with
  | zero => intro x0 x3 h; exact vv_none
  | succ n ih => exact C_X8_of_76 X _ ih
noncomputable def c_X8_of_46 (r46 : Option Nat → Option Nat → Int → Int → HP → Option ((Option Nat) × HP)) (x0 : Option Nat) (x1 : Option Nat) (x2 : Int) (x3 : Int) (h : HP) : Option ((Option Nat) × HP) :=
  (x1).bind fun b7 =>
  hb (dsp_Row_many_3_5_11 b7 h) fun v5 h6 =>
  iLE v5 x3
    (b_X8_of_76 x0 x2 h6)
    ((rdR h6 x0 [6] 0).bind fun v14 =>
    (x1).bind fun b17 =>
    hb (dsp_Row_at_3_5_11 b17 x3 h6) fun v15 h16 =>
    (aldI h16 .int v14 v15).bind fun v19 =>
    (astI h16 .int v14 v15 (v19 + 1)).bind fun h20 =>
    r46 x0 x1 x2 (x3 + 1) h20)
noncomputable def b_X8_of_46 : Option Nat → Option Nat → Int → Int → HP → Option ((Option Nat) × HP) := fx (fun _ _ _ _ _ => none) (c_X8_of_46) FU
theorem C_X8_of_46 {M : hp_M} {G : va_G} {h0 : HP} (X : hp_X M G h0 "RenamedWords$Inventory" "of" cX8_of 4 (some (.object "RenamedWords$Inventory")) [] 2 58) (r46 : Option Nat → Option Nat → Int → Int → HP → Option ((Option Nat) × HP)) (hr46 : ∀ (y0 : Option Nat) (y1 : Option Nat) (y2 : Int) (y3 : Int) (h : HP), vv M G h0 4 (hp_End M G h0) jR h 46 [(0, LR y0), (1, LR y1), (2, LI y2), (3, LI y3)] [] (r46 y0 y1 y2 y3 h)) (x0 : Option Nat) (x1 : Option Nat) (x2 : Int) (x3 : Int) (h : HP) : vv M G h0 4 (hp_End M G h0) jR h 46 [(0, LR x0), (1, LR x1), (2, LI x2), (3, LI x3)] [] (c_X8_of_46 r46 x0 x1 x2 x3 h) := by
  unfold c_X8_of_46
  refine vv_iload_n (pc := 46) X (kf := 3) (i := 3) rfl 3 rfl dX8_of_46 ?_
  refine vv_aload_n (pc := 47) X (kf := 1) (i := 1) rfl 1 rfl dX8_of_47 ?_
  refine vv_bnd (fun b7 e8 => ?_)
  refine vv_callI (pc := 48) (rest := [LI x3]) (by rw [e8]; rfl) (fun r8 k8 e8 => Zdsp_Row_many_3_5_11 X q3135 dX8_of_48 (by decide) (by decide) (Nat.le_of_ble_eq_true rfl) e8) (fun v5 h6 => ?_)
  refine vv_icmp_ge (pc := 51) (tgt := 74) X dX8_of_51 rfl ?_ ?_
  · refine vv_iload_n (pc := 74) X (kf := 2) (i := 2) rfl 2 rfl dX8_of_74 ?_
    refine vv_istore_n (pc := 75) (lv' := [(3, LI x2), (0, LR x0), (1, LR x1), (2, LI x2)]) X (kf := 3) (i := 3) rfl (by decide) rfl dX8_of_75 ?_
    exact vv_sub [1, 0] (by rfl) (B_X8_of_76 X _ _ _)
  · refine vv_aload_n (pc := 54) X (kf := 0) (i := 0) rfl 0 rfl dX8_of_54 ?_
    refine vv_getR (pc := 55) X (fun _ z => by cases List.mem_singleton.mp z; exact fl_X8_9_6) dX8_of_55 (fun v14 => ?_)
    refine vv_aload_n (pc := 58) X (kf := 1) (i := 1) rfl 1 rfl dX8_of_58 ?_
    refine vv_iload_n (pc := 59) X (kf := 3) (i := 3) rfl 3 rfl dX8_of_59 ?_
    refine vv_bnd (fun b17 e18 => ?_)
    refine vv_callI (pc := 60) (rest := [LR v14]) (by rw [e18]; rfl) (fun r8 k8 e8 => Zdsp_Row_at_3_5_11 X q3136 dX8_of_60 (by decide) (by decide) (Nat.le_of_ble_eq_true rfl) e8) (fun v15 h16 => ?_)
    refine vv_dup2 (pc := 63) X rfl rfl dX8_of_63 ?_
    refine vv_iaload (pc := 64) X dX8_of_64 (fun v19 => ?_)
    refine vv_iconst (pc := 65) X dX8_of_65 ?_
    refine vv_iadd (pc := 66) X dX8_of_66 ?_
    refine vv_iastore (pc := 67) X dX8_of_67 (fun h20 => ?_)
    refine vv_iinc (pc := 68) (lv' := [(3, LI (x3 + 1)), (0, LR x0), (1, LR x1), (2, LI x2)]) X 3 rfl (by decide) rfl dX8_of_68 ?_
    refine vv_goto (pc := 71) (tgt := 46) X dX8_of_71 rfl ?_
    exact vv_sub [1, 2, 3, 0] (by rfl) (hr46 _ _ _ _ _)
theorem B_X8_of_46 {M : hp_M} {G : va_G} {h0 : HP} (X : hp_X M G h0 "RenamedWords$Inventory" "of" cX8_of 4 (some (.object "RenamedWords$Inventory")) [] 2 58) : ∀ (x0 : Option Nat) (x1 : Option Nat) (x2 : Int) (x3 : Int) (h : HP), vv M G h0 4 (hp_End M G h0) jR h 46 [(0, LR x0), (1, LR x1), (2, LI x2), (3, LI x3)] [] (b_X8_of_46 x0 x1 x2 x3 h) := by
  unfold b_X8_of_46
  generalize FU = n
  induction n with
  | zero => intro x0 x1 x2 x3 h; exact vv_none
  | succ n ih => exact C_X8_of_46 X _ ih
noncomputable def c_X8_of_23 (r23 : Option Nat → Option Nat → Int → Int → HP → Option ((Option Nat) × HP)) (x0 : Option Nat) (x1 : Option Nat) (x2 : Int) (x3 : Int) (h : HP) : Option ((Option Nat) × HP) :=
  (x1).bind fun b3 =>
  hb (dsp_Row_many_3_5_11 b3 h) fun v1 h2 =>
  iLT v1 x3
    (b_X8_of_46 x0 x1 x2 0 h2)
    ((rdR h2 x0 [6] 1).bind fun v21 =>
    (astI h2 .int v21 x3 0).bind fun h22 =>
    r23 x0 x1 x2 (x3 + 1) h22)
noncomputable def b_X8_of_23 : Option Nat → Option Nat → Int → Int → HP → Option ((Option Nat) × HP) := fx (fun _ _ _ _ _ => none) (c_X8_of_23) FU
theorem C_X8_of_23 {M : hp_M} {G : va_G} {h0 : HP} (X : hp_X M G h0 "RenamedWords$Inventory" "of" cX8_of 4 (some (.object "RenamedWords$Inventory")) [] 2 58) (r23 : Option Nat → Option Nat → Int → Int → HP → Option ((Option Nat) × HP)) (hr23 : ∀ (y0 : Option Nat) (y1 : Option Nat) (y2 : Int) (y3 : Int) (h : HP), vv M G h0 4 (hp_End M G h0) jR h 23 [(0, LR y0), (1, LR y1), (2, LI y2), (3, LI y3)] [] (r23 y0 y1 y2 y3 h)) (x0 : Option Nat) (x1 : Option Nat) (x2 : Int) (x3 : Int) (h : HP) : vv M G h0 4 (hp_End M G h0) jR h 23 [(0, LR x0), (1, LR x1), (2, LI x2), (3, LI x3)] [] (c_X8_of_23 r23 x0 x1 x2 x3 h) := by
  unfold c_X8_of_23
  refine vv_iload_n (pc := 23) X (kf := 3) (i := 3) rfl 3 rfl dX8_of_23 ?_
  refine vv_aload_n (pc := 24) X (kf := 1) (i := 1) rfl 1 rfl dX8_of_24 ?_
  refine vv_bnd (fun b3 e4 => ?_)
  refine vv_callI (pc := 25) (rest := [LI x3]) (by rw [e4]; rfl) (fun r8 k8 e8 => Zdsp_Row_many_3_5_11 X q3135 dX8_of_25 (by decide) (by decide) (Nat.le_of_ble_eq_true rfl) e8) (fun v1 h2 => ?_)
  refine vv_icmp_gt (pc := 28) (tgt := 44) X dX8_of_28 rfl ?_ ?_
  · refine vv_iconst (pc := 44) X dX8_of_44 ?_
    refine vv_istore_n (pc := 45) (lv' := [(3, LI 0), (0, LR x0), (1, LR x1), (2, LI x2)]) X (kf := 3) (i := 3) rfl (by decide) rfl dX8_of_45 ?_
    exact vv_sub [1, 2, 3, 0] (by rfl) (B_X8_of_46 X _ _ _ _ _)
  · refine vv_aload_n (pc := 31) X (kf := 0) (i := 0) rfl 0 rfl dX8_of_31 ?_
    refine vv_getR (pc := 32) X (fun _ z => by cases List.mem_singleton.mp z; exact fl_X8_15_6) dX8_of_32 (fun v21 => ?_)
    refine vv_iload_n (pc := 35) X (kf := 3) (i := 3) rfl 3 rfl dX8_of_35 ?_
    refine vv_iconst (pc := 36) X dX8_of_36 ?_
    refine vv_iastore (pc := 37) X dX8_of_37 (fun h22 => ?_)
    refine vv_iinc (pc := 38) (lv' := [(3, LI (x3 + 1)), (0, LR x0), (1, LR x1), (2, LI x2)]) X 3 rfl (by decide) rfl dX8_of_38 ?_
    refine vv_goto (pc := 41) (tgt := 23) X dX8_of_41 rfl ?_
    exact vv_sub [1, 2, 3, 0] (by rfl) (hr23 _ _ _ _ _)
theorem B_X8_of_23 {M : hp_M} {G : va_G} {h0 : HP} (X : hp_X M G h0 "RenamedWords$Inventory" "of" cX8_of 4 (some (.object "RenamedWords$Inventory")) [] 2 58) : ∀ (x0 : Option Nat) (x1 : Option Nat) (x2 : Int) (x3 : Int) (h : HP), vv M G h0 4 (hp_End M G h0) jR h 23 [(0, LR x0), (1, LR x1), (2, LI x2), (3, LI x3)] [] (b_X8_of_23 x0 x1 x2 x3 h) := by
  unfold b_X8_of_23
  generalize FU = n
  induction n with
  | zero => intro x0 x1 x2 x3 h; exact vv_none
  | succ n ih => exact C_X8_of_23 X _ ih
noncomputable def c_X8_of_2 (r2 : Option Nat → Option Nat → Int → Int → HP → Option ((Option Nat) × HP)) (x0 : Option Nat) (x1 : Option Nat) (x2 : Int) (x3 : Int) (h : HP) : Option ((Option Nat) × HP) :=
  iLE 26 x3
    (b_X8_of_23 x0 x1 x2 0 h)
    ((rdR h x0 [6] 0).bind fun v23 =>
    (astI h .int v23 x3 0).bind fun h24 =>
    r2 x0 x1 x2 (x3 + 1) h24)
noncomputable def b_X8_of_2 : Option Nat → Option Nat → Int → Int → HP → Option ((Option Nat) × HP) := fx (fun _ _ _ _ _ => none) (c_X8_of_2) FU
theorem C_X8_of_2 {M : hp_M} {G : va_G} {h0 : HP} (X : hp_X M G h0 "RenamedWords$Inventory" "of" cX8_of 4 (some (.object "RenamedWords$Inventory")) [] 2 58) (r2 : Option Nat → Option Nat → Int → Int → HP → Option ((Option Nat) × HP)) (hr2 : ∀ (y0 : Option Nat) (y1 : Option Nat) (y2 : Int) (y3 : Int) (h : HP), vv M G h0 4 (hp_End M G h0) jR h 2 [(0, LR y0), (1, LR y1), (2, LI y2), (3, LI y3)] [] (r2 y0 y1 y2 y3 h)) (x0 : Option Nat) (x1 : Option Nat) (x2 : Int) (x3 : Int) (h : HP) : vv M G h0 4 (hp_End M G h0) jR h 2 [(0, LR x0), (1, LR x1), (2, LI x2), (3, LI x3)] [] (c_X8_of_2 r2 x0 x1 x2 x3 h) := by
  unfold c_X8_of_2
  refine vv_iload_n (pc := 2) X (kf := 3) (i := 3) rfl 3 rfl dX8_of_2 ?_
  refine vv_bipush (pc := 3) X (by decide) dX8_of_3 ?_
  refine vv_icmp_ge (pc := 5) (tgt := 21) X dX8_of_5 rfl ?_ ?_
  · refine vv_iconst (pc := 21) X dX8_of_21 ?_
    refine vv_istore_n (pc := 22) (lv' := [(3, LI 0), (0, LR x0), (1, LR x1), (2, LI x2)]) X (kf := 3) (i := 3) rfl (by decide) rfl dX8_of_22 ?_
    exact vv_sub [1, 2, 3, 0] (by rfl) (B_X8_of_23 X _ _ _ _ _)
  · refine vv_aload_n (pc := 8) X (kf := 0) (i := 0) rfl 0 rfl dX8_of_8 ?_
    refine vv_getR (pc := 9) X (fun _ z => by cases List.mem_singleton.mp z; exact fl_X8_9_6) dX8_of_9 (fun v23 => ?_)
    refine vv_iload_n (pc := 12) X (kf := 3) (i := 3) rfl 3 rfl dX8_of_12 ?_
    refine vv_iconst (pc := 13) X dX8_of_13 ?_
    refine vv_iastore (pc := 14) X dX8_of_14 (fun h24 => ?_)
    refine vv_iinc (pc := 15) (lv' := [(3, LI (x3 + 1)), (0, LR x0), (1, LR x1), (2, LI x2)]) X 3 rfl (by decide) rfl dX8_of_15 ?_
    refine vv_goto (pc := 18) (tgt := 2) X dX8_of_18 rfl ?_
    exact vv_sub [1, 2, 3, 0] (by rfl) (hr2 _ _ _ _ _)
theorem B_X8_of_2 {M : hp_M} {G : va_G} {h0 : HP} (X : hp_X M G h0 "RenamedWords$Inventory" "of" cX8_of 4 (some (.object "RenamedWords$Inventory")) [] 2 58) : ∀ (x0 : Option Nat) (x1 : Option Nat) (x2 : Int) (x3 : Int) (h : HP), vv M G h0 4 (hp_End M G h0) jR h 2 [(0, LR x0), (1, LR x1), (2, LI x2), (3, LI x3)] [] (b_X8_of_2 x0 x1 x2 x3 h) := by
  unfold b_X8_of_2
  generalize FU = n
  induction n with
  | zero => intro x0 x1 x2 x3 h; exact vv_none
  | succ n ih => exact C_X8_of_2 X _ ih
noncomputable def f_X8_of (a0 : Nat) (a1 : Option Nat) (a2 : Int) (h : HP) : Option ((Option Nat) × HP) :=
  b_X8_of_2 (some a0) a1 a2 0 h
theorem A_X8_of {M : hp_M} {G : va_G} {h0 : HP} (X : hp_X M G h0 "RenamedWords$Inventory" "of" cX8_of 4 (some (.object "RenamedWords$Inventory")) [] 2 58) (a0 : Nat) (a1 : Option Nat) (a2 : Int) (h : HP) : vv M G h0 4 (hp_End M G h0) jR h 0 [(0, LR (some a0)), (1, LR a1), (2, LI a2)] [] (f_X8_of a0 a1 a2 h) := by
  unfold f_X8_of
  refine vv_iconst (pc := 0) X dX8_of_0 ?_
  refine vv_istore_n (pc := 1) (lv' := [(3, LI 0), (0, LR (some a0)), (1, LR a1), (2, LI a2)]) X (kf := 3) (i := 3) rfl (by decide) rfl dX8_of_1 ?_
  exact vv_sub [1, 2, 3, 0] (by rfl) (B_X8_of_2 X _ _ _ _ _)
theorem m_X8_of {l : Launch} (hl : l.stackTraces = false) {G : va_G} (a0 : Nat) (a1 : Option Nat) (a2 : Int) (h : HP) : ∀ r hf, f_X8_of a0 a1 a2 h = some (r, hf) → Ct l yX8_of (ws_ yX8_of cX8_of 4 (some (.object "RenamedWords$Inventory"))) 2 58 G h [.ref a0, va_rf a1, .int (iI a2)] (jR r) hf :=
  zz_ofW hl (by decide +kernel) (lv := [(0, LR (some a0)), (1, LR a1), (2, LI a2)]) (by simp [lv_args, lvL, lvV, zz_rfc, zz_rfs, zz_ci, zz_cr, zz_cj, zz_cf, zz_cd]) (by simp [lg_sl, zz_rfc, zz_ci, zz_cr, zz_cj, zz_cf, zz_cd]) (fun _ X => A_X8_of X a0 a1 a2 h)
-- X8_isLike RenamedWords$Inventory.isLike(LRenamedWords$Inventory;II)Z
noncomputable def c_X8_isLike_37 (r37 : Option Nat → Option Nat → Int → Int → HP → Option ((Int) × HP)) (x0 : Option Nat) (x1 : Option Nat) (x2 : Int) (x4 : Int) (h : HP) : Option ((Int) × HP) :=
  iLT x2 x4
    (some (1, h))
    ((rdR h x0 [6] 1).bind fun v1 =>
    (aldI h .int v1 x4).bind fun v2 =>
    (rdR h x1 [6] 1).bind fun v3 =>
    (aldI h .int v3 x4).bind fun v4 =>
    iEQ v2 v4
      (r37 x0 x1 x2 (x4 + 1) h)
      (some (0, h)))
noncomputable def b_X8_isLike_37 : Option Nat → Option Nat → Int → Int → HP → Option ((Int) × HP) := fx (fun _ _ _ _ _ => none) (c_X8_isLike_37) FU
theorem C_X8_isLike_37 {M : hp_M} {G : va_G} {h0 : HP} (X : hp_X M G h0 "RenamedWords$Inventory" "isLike" cX8_isLike 5 (some .boolean) [] 0 0) (r37 : Option Nat → Option Nat → Int → Int → HP → Option ((Int) × HP)) (hr37 : ∀ (y0 : Option Nat) (y1 : Option Nat) (y2 : Int) (y4 : Int) (h : HP), vv M G h0 5 (hp_End M G h0) jI h 37 [(0, LR y0), (1, LR y1), (2, LI y2), (4, LI y4)] [] (r37 y0 y1 y2 y4 h)) (x0 : Option Nat) (x1 : Option Nat) (x2 : Int) (x4 : Int) (h : HP) : vv M G h0 5 (hp_End M G h0) jI h 37 [(0, LR x0), (1, LR x1), (2, LI x2), (4, LI x4)] [] (c_X8_isLike_37 r37 x0 x1 x2 x4 h) := by
  unfold c_X8_isLike_37
  refine vv_iload (pc := 37) X 3 rfl dX8_isLike_37 ?_
  refine vv_iload_n (pc := 39) X (kf := 2) (i := 2) rfl 2 rfl dX8_isLike_39 ?_
  refine vv_icmp_gt (pc := 40) (tgt := 68) X dX8_isLike_40 rfl ?_ ?_
  · refine vv_iconst (pc := 68) X dX8_isLike_68 ?_
    exact vv_iret1 X rfl rfl dX8_isLike_69
  · refine vv_aload_n (pc := 43) X (kf := 0) (i := 0) rfl 0 rfl dX8_isLike_43 ?_
    refine vv_getR (pc := 44) X (fun _ z => by cases List.mem_singleton.mp z; exact fl_X8_15_6) dX8_isLike_44 (fun v1 => ?_)
    refine vv_iload (pc := 47) X 3 rfl dX8_isLike_47 ?_
    refine vv_iaload (pc := 49) X dX8_isLike_49 (fun v2 => ?_)
    refine vv_aload_n (pc := 50) X (kf := 1) (i := 1) rfl 1 rfl dX8_isLike_50 ?_
    refine vv_getR (pc := 51) X (fun _ z => by cases List.mem_singleton.mp z; exact fl_X8_15_6) dX8_isLike_51 (fun v3 => ?_)
    refine vv_iload (pc := 54) X 3 rfl dX8_isLike_54 ?_
    refine vv_iaload (pc := 56) X dX8_isLike_56 (fun v4 => ?_)
    refine vv_icmp_eq (pc := 57) (tgt := 62) X dX8_isLike_57 rfl ?_ ?_
    · refine vv_iinc (pc := 62) (lv' := [(4, LI (x4 + 1)), (0, LR x0), (1, LR x1), (2, LI x2)]) X 3 rfl (by decide) rfl dX8_isLike_62 ?_
      refine vv_goto (pc := 65) (tgt := 37) X dX8_isLike_65 rfl ?_
      exact vv_sub [1, 2, 3, 0] (by rfl) (hr37 _ _ _ _ _)
    · refine vv_iconst (pc := 60) X dX8_isLike_60 ?_
      exact vv_iret0 X rfl rfl dX8_isLike_61
theorem B_X8_isLike_37 {M : hp_M} {G : va_G} {h0 : HP} (X : hp_X M G h0 "RenamedWords$Inventory" "isLike" cX8_isLike 5 (some .boolean) [] 0 0) : ∀ (x0 : Option Nat) (x1 : Option Nat) (x2 : Int) (x4 : Int) (h : HP), vv M G h0 5 (hp_End M G h0) jI h 37 [(0, LR x0), (1, LR x1), (2, LI x2), (4, LI x4)] [] (b_X8_isLike_37 x0 x1 x2 x4 h) := by
  unfold b_X8_isLike_37
  generalize FU = n
  induction n with
  | zero => intro x0 x1 x2 x4 h; exact vv_none
  | succ n ih => exact C_X8_isLike_37 X _ ih
noncomputable def c_X8_isLike_3 (r3 : Option Nat → Option Nat → Int → Int → Int → HP → Option ((Int) × HP)) (x0 : Option Nat) (x1 : Option Nat) (x2 : Int) (x3 : Int) (x4 : Int) (h : HP) : Option ((Int) × HP) :=
  iLE x3 x4
    (b_X8_isLike_37 x0 x1 x2 1 h)
    ((rdR h x0 [6] 0).bind fun v5 =>
    (aldI h .int v5 x4).bind fun v6 =>
    (rdR h x1 [6] 0).bind fun v7 =>
    (aldI h .int v7 x4).bind fun v8 =>
    iEQ v6 v8
      (r3 x0 x1 x2 x3 (x4 + 1) h)
      (some (0, h)))
noncomputable def b_X8_isLike_3 : Option Nat → Option Nat → Int → Int → Int → HP → Option ((Int) × HP) := fx (fun _ _ _ _ _ _ => none) (c_X8_isLike_3) FU
theorem C_X8_isLike_3 {M : hp_M} {G : va_G} {h0 : HP} (X : hp_X M G h0 "RenamedWords$Inventory" "isLike" cX8_isLike 5 (some .boolean) [] 0 0) (r3 : Option Nat → Option Nat → Int → Int → Int → HP → Option ((Int) × HP)) (hr3 : ∀ (y0 : Option Nat) (y1 : Option Nat) (y2 : Int) (y3 : Int) (y4 : Int) (h : HP), vv M G h0 5 (hp_End M G h0) jI h 3 [(0, LR y0), (1, LR y1), (2, LI y2), (3, LI y3), (4, LI y4)] [] (r3 y0 y1 y2 y3 y4 h)) (x0 : Option Nat) (x1 : Option Nat) (x2 : Int) (x3 : Int) (x4 : Int) (h : HP) : vv M G h0 5 (hp_End M G h0) jI h 3 [(0, LR x0), (1, LR x1), (2, LI x2), (3, LI x3), (4, LI x4)] [] (c_X8_isLike_3 r3 x0 x1 x2 x3 x4 h) := by
  unfold c_X8_isLike_3
  refine vv_iload (pc := 3) X 4 rfl dX8_isLike_3 ?_
  refine vv_iload_n (pc := 5) X (kf := 3) (i := 3) rfl 3 rfl dX8_isLike_5 ?_
  refine vv_icmp_ge (pc := 6) (tgt := 34) X dX8_isLike_6 rfl ?_ ?_
  · refine vv_iconst (pc := 34) X dX8_isLike_34 ?_
    refine vv_istore (pc := 35) (lv' := [(4, LI 1), (0, LR x0), (1, LR x1), (2, LI x2), (3, LI x3)]) X (by decide) rfl dX8_isLike_35 ?_
    exact vv_sub [1, 2, 3, 0] (by rfl) (B_X8_isLike_37 X _ _ _ _ _)
  · refine vv_aload_n (pc := 9) X (kf := 0) (i := 0) rfl 0 rfl dX8_isLike_9 ?_
    refine vv_getR (pc := 10) X (fun _ z => by cases List.mem_singleton.mp z; exact fl_X8_9_6) dX8_isLike_10 (fun v5 => ?_)
    refine vv_iload (pc := 13) X 4 rfl dX8_isLike_13 ?_
    refine vv_iaload (pc := 15) X dX8_isLike_15 (fun v6 => ?_)
    refine vv_aload_n (pc := 16) X (kf := 1) (i := 1) rfl 1 rfl dX8_isLike_16 ?_
    refine vv_getR (pc := 17) X (fun _ z => by cases List.mem_singleton.mp z; exact fl_X8_9_6) dX8_isLike_17 (fun v7 => ?_)
    refine vv_iload (pc := 20) X 4 rfl dX8_isLike_20 ?_
    refine vv_iaload (pc := 22) X dX8_isLike_22 (fun v8 => ?_)
    refine vv_icmp_eq (pc := 23) (tgt := 28) X dX8_isLike_23 rfl ?_ ?_
    · refine vv_iinc (pc := 28) (lv' := [(4, LI (x4 + 1)), (0, LR x0), (1, LR x1), (2, LI x2), (3, LI x3)]) X 4 rfl (by decide) rfl dX8_isLike_28 ?_
      refine vv_goto (pc := 31) (tgt := 3) X dX8_isLike_31 rfl ?_
      exact vv_sub [1, 2, 3, 4, 0] (by rfl) (hr3 _ _ _ _ _ _)
    · refine vv_iconst (pc := 26) X dX8_isLike_26 ?_
      exact vv_iret0 X rfl rfl dX8_isLike_27
theorem B_X8_isLike_3 {M : hp_M} {G : va_G} {h0 : HP} (X : hp_X M G h0 "RenamedWords$Inventory" "isLike" cX8_isLike 5 (some .boolean) [] 0 0) : ∀ (x0 : Option Nat) (x1 : Option Nat) (x2 : Int) (x3 : Int) (x4 : Int) (h : HP), vv M G h0 5 (hp_End M G h0) jI h 3 [(0, LR x0), (1, LR x1), (2, LI x2), (3, LI x3), (4, LI x4)] [] (b_X8_isLike_3 x0 x1 x2 x3 x4 h) := by
  unfold b_X8_isLike_3
  generalize FU = n
  induction n with
  | zero => intro x0 x1 x2 x3 x4 h; exact vv_none
  | succ n ih => exact C_X8_isLike_3 X _ ih
noncomputable def f_X8_isLike (a0 : Nat) (a1 : Option Nat) (a2 : Int) (a3 : Int) (h : HP) : Option ((Int) × HP) :=
  b_X8_isLike_3 (some a0) a1 a2 a3 0 h
theorem A_X8_isLike {M : hp_M} {G : va_G} {h0 : HP} (X : hp_X M G h0 "RenamedWords$Inventory" "isLike" cX8_isLike 5 (some .boolean) [] 0 0) (a0 : Nat) (a1 : Option Nat) (a2 : Int) (a3 : Int) (h : HP) : vv M G h0 5 (hp_End M G h0) jI h 0 [(0, LR (some a0)), (1, LR a1), (2, LI a2), (3, LI a3)] [] (f_X8_isLike a0 a1 a2 a3 h) := by
  unfold f_X8_isLike
  refine vv_iconst (pc := 0) X dX8_isLike_0 ?_
  refine vv_istore (pc := 1) (lv' := [(4, LI 0), (0, LR (some a0)), (1, LR a1), (2, LI a2), (3, LI a3)]) X (by decide) rfl dX8_isLike_1 ?_
  exact vv_sub [1, 2, 3, 4, 0] (by rfl) (B_X8_isLike_3 X _ _ _ _ _ _)
theorem m_X8_isLike {l : Launch} (hl : l.stackTraces = false) {G : va_G} (a0 : Nat) (a1 : Option Nat) (a2 : Int) (a3 : Int) (h : HP) : ∀ r hf, f_X8_isLike a0 a1 a2 a3 h = some (r, hf) → Ct l yX8_isLike (ws_ yX8_isLike cX8_isLike 5 (some .boolean)) 0 0 G h [.ref a0, va_rf a1, .int (iI a2), .int (iI a3)] (jI r) hf :=
  zz_ofW hl (by decide +kernel) (lv := [(0, LR (some a0)), (1, LR a1), (2, LI a2), (3, LI a3)]) (by simp [lv_args, lvL, lvV, zz_rfc, zz_rfs, zz_ci, zz_cr, zz_cj, zz_cf, zz_cd]) (by simp [lg_sl, zz_rfc, zz_ci, zz_cr, zz_cj, zz_cf, zz_cd]) (fun _ X => A_X8_isLike X a0 a1 a2 a3 h)
-- J15_copyOf_4 java/util/Arrays.copyOf([JI)[J
noncomputable def f_J15_copyOf_4 (a1 : Option Nat) (a2 : Int) (h : HP) : Option ((Option Nat) × HP) :=
  (alen h a1).bind fun v1 =>
  iEQ a2 v1
    (none)
    (hb (nwJ h (tgR h a1) a2) fun v2 h3 =>
    (alen h3 a1).bind fun v4 =>
    hb (f_J14_min v4 a2 h3) fun v5 h6 =>
    (acpI h6 .byte a1 0 v2 0 v5).bind fun h7 =>
    some (v2, h7))
theorem A_J15_copyOf_4 {M : hp_M} {G : va_G} {h0 : HP} (X : hp_X M G h0 "java/util/Arrays" "copyOf" cJ15_copyOf_4 3 (some (.array .long)) [] 1 100) (a1 : Option Nat) (a2 : Int) (h : HP) : vv M G h0 3 (hp_End M G h0) jR h 0 [(0, LR a1), (1, LI a2)] [] (f_J15_copyOf_4 a1 a2 h) := by
  unfold f_J15_copyOf_4
  refine vv_iload_n (pc := 0) X (kf := 1) (i := 1) rfl 1 rfl dJ15_copyOf_4_0 ?_
  refine vv_aload_n (pc := 1) X (kf := 0) (i := 0) rfl 0 rfl dJ15_copyOf_4_1 ?_
  refine vv_alen (pc := 2) X dJ15_copyOf_4_2 (fun v1 => ?_)
  refine vv_icmp_ne (pc := 3) (tgt := 14) X dJ15_copyOf_4_3 rfl ?_ ?_
  · refine vv_iload_n (pc := 14) X (kf := 1) (i := 1) rfl 1 rfl dJ15_copyOf_4_14 ?_
    refine vv_newlong (pc := 15) X dJ15_copyOf_4_15 (fun v2 h3 => ?_)
    refine vv_astore_n (pc := 17) (lv' := [(2, LR v2), (0, LR a1), (1, LI a2)]) X (kf := 2) (i := 2) rfl (by decide) rfl dJ15_copyOf_4_17 ?_
    refine vv_aload_n (pc := 18) X (kf := 0) (i := 0) rfl 1 rfl dJ15_copyOf_4_18 ?_
    refine vv_iconst (pc := 19) X dJ15_copyOf_4_19 ?_
    refine vv_aload_n (pc := 20) X (kf := 2) (i := 2) rfl 0 rfl dJ15_copyOf_4_20 ?_
    refine vv_iconst (pc := 21) X dJ15_copyOf_4_21 ?_
    refine vv_aload_n (pc := 22) X (kf := 0) (i := 0) rfl 1 rfl dJ15_copyOf_4_22 ?_
    refine vv_alen (pc := 23) X dJ15_copyOf_4_23 (fun v4 => ?_)
    refine vv_iload_n (pc := 24) X (kf := 1) (i := 1) rfl 2 rfl dJ15_copyOf_4_24 ?_
    refine vv_callI (pc := 25) (rest := [LI 0, LR v2, LI 0, LR a1]) (by rfl) (fun r8 k8 e8 => zz_callS X (m_J14_min (hlM X) _ _ _ _ _ e8) q391 q392 q149 q393 nh_J14 rfl (by decide) (by decide) (Nat.le_of_ble_eq_true rfl) dJ15_copyOf_4_25) (fun v5 h6 => ?_)
    refine vv_arraycopy (pc := 28) X q394 q396 q395 q151 (by decide) (by decide) (Nat.le_of_ble_eq_true rfl) dJ15_copyOf_4_28 (fun h7 => ?_)
    refine vv_aload_n (pc := 31) X (kf := 2) (i := 2) rfl 0 rfl dJ15_copyOf_4_31 ?_
    exact vv_aretA X rfl rfl dJ15_copyOf_4_32
  · refine vv_aload_n (pc := 6) X (kf := 0) (i := 0) rfl 0 rfl dJ15_copyOf_4_6 ?_
    exact vv_none
theorem m_J15_copyOf_4 {l : Launch} (hl : l.stackTraces = false) {G : va_G} (a1 : Option Nat) (a2 : Int) (h : HP) : ∀ r hf, f_J15_copyOf_4 a1 a2 h = some (r, hf) → Ct l yJ15_copyOf_4 (ws_ yJ15_copyOf_4 cJ15_copyOf_4 3 (some (.array .long))) 1 100 G h [va_rf a1, .int (iI a2)] (jR r) hf :=
  zz_ofW hl (by decide +kernel) (lv := [(0, LR a1), (1, LI a2)]) (by simp [lv_args, lvL, lvV, zz_rfc, zz_rfs, zz_ci, zz_cr, zz_cj, zz_cf, zz_cd]) (by simp [lg_sl, zz_rfc, zz_ci, zz_cr, zz_cj, zz_cf, zz_cd]) (fun _ X => A_J15_copyOf_4 X a1 a2 h)
-- J40_ensureCapacity java/util/BitSet.ensureCapacity(I)V
noncomputable def b_J40_ensureCapacity_38 (h : HP) : Option ((Unit) × HP) :=
  some ((), h)
theorem B_J40_ensureCapacity_38 {M : hp_M} {G : va_G} {h0 : HP} (X : hp_X M G h0 "java/util/BitSet" "ensureCapacity" cJ40_ensureCapacity 3 none [] 2 130) (h : HP) : vv M G h0 3 (hp_End M G h0) jV h 38 [] [] (b_J40_ensureCapacity_38 h) := by
  unfold b_J40_ensureCapacity_38
  exact vv_vreturn X rfl rfl dJ40_ensureCapacity_38
noncomputable def f_J40_ensureCapacity (a0 : Nat) (a1 : Int) (h : HP) : Option ((Unit) × HP) :=
  (rdR h (some a0) [33] 0).bind fun v1 =>
  (alen h v1).bind fun v2 =>
  iLE a1 v2
    (b_J40_ensureCapacity_38 h)
    ((rdR h (some a0) [33] 0).bind fun v3 =>
    (alen h v3).bind fun v4 =>
    hb (f_J14_max (2 * v4) a1 h) fun v5 h6 =>
    (rdR h6 (some a0) [33] 0).bind fun v7 =>
    hb (f_J15_copyOf_4 v7 v5 h6) fun v8 h9 =>
    (wrR h9 (some a0) [33] 0 v8).bind fun h10 =>
    (wrZ h10 (some a0) [33] 2 0).bind fun h11 =>
    b_J40_ensureCapacity_38 h11)
theorem A_J40_ensureCapacity {M : hp_M} {G : va_G} {h0 : HP} (X : hp_X M G h0 "java/util/BitSet" "ensureCapacity" cJ40_ensureCapacity 3 none [] 2 130) (a0 : Nat) (a1 : Int) (h : HP) : vv M G h0 3 (hp_End M G h0) jV h 0 [(0, LR (some a0)), (1, LI a1)] [] (f_J40_ensureCapacity a0 a1 h) := by
  unfold f_J40_ensureCapacity
  refine vv_aload_n (pc := 0) X (kf := 0) (i := 0) rfl 0 rfl dJ40_ensureCapacity_0 ?_
  refine vv_getR (pc := 1) X (fun _ z => by cases List.mem_singleton.mp z; exact fl_J40_11_33) dJ40_ensureCapacity_1 (fun v1 => ?_)
  refine vv_alen (pc := 4) X dJ40_ensureCapacity_4 (fun v2 => ?_)
  refine vv_iload_n (pc := 5) X (kf := 1) (i := 1) rfl 1 rfl dJ40_ensureCapacity_5 ?_
  refine vv_icmp_ge (pc := 6) (tgt := 38) X dJ40_ensureCapacity_6 rfl ?_ ?_
  · exact vv_sub [] (by rfl) (B_J40_ensureCapacity_38 X _)
  · refine vv_iconst (pc := 9) X dJ40_ensureCapacity_9 ?_
    refine vv_aload_n (pc := 10) X (kf := 0) (i := 0) rfl 0 rfl dJ40_ensureCapacity_10 ?_
    refine vv_getR (pc := 11) X (fun _ z => by cases List.mem_singleton.mp z; exact fl_J40_11_33) dJ40_ensureCapacity_11 (fun v3 => ?_)
    refine vv_alen (pc := 14) X dJ40_ensureCapacity_14 (fun v4 => ?_)
    refine vv_imul (pc := 15) X dJ40_ensureCapacity_15 ?_
    refine vv_iload_n (pc := 16) X (kf := 1) (i := 1) rfl 1 rfl dJ40_ensureCapacity_16 ?_
    refine vv_callI (pc := 17) (rest := []) (by rfl) (fun r8 k8 e8 => zz_callS X (m_J14_max (hlM X) _ _ _ _ _ e8) q2908 q374 q149 q375 nh_J14 rfl (by decide) (by decide) (Nat.le_of_ble_eq_true rfl) dJ40_ensureCapacity_17) (fun v5 h6 => ?_)
    refine vv_istore_n (pc := 20) (lv' := [(2, LI v5), (0, LR (some a0)), (1, LI a1)]) X (kf := 2) (i := 2) rfl (by decide) rfl dJ40_ensureCapacity_20 ?_
    refine vv_aload_n (pc := 21) X (kf := 0) (i := 0) rfl 1 rfl dJ40_ensureCapacity_21 ?_
    refine vv_aload_n (pc := 22) X (kf := 0) (i := 0) rfl 1 rfl dJ40_ensureCapacity_22 ?_
    refine vv_getR (pc := 23) X (fun _ z => by cases List.mem_singleton.mp z; exact fl_J40_11_33) dJ40_ensureCapacity_23 (fun v7 => ?_)
    refine vv_iload_n (pc := 26) X (kf := 2) (i := 2) rfl 0 rfl dJ40_ensureCapacity_26 ?_
    refine vv_callR (pc := 27) (rest := [LR (some a0)]) (by rfl) (fun r8 k8 e8 => zz_callS X (m_J15_copyOf_4 (hlM X) _ _ _ _ _ e8) q2909 q2910 q150 q2911 nh_J15 rfl (by decide) (by decide) (Nat.le_of_ble_eq_true rfl) dJ40_ensureCapacity_27) (fun v8 h9 => ?_)
    refine vv_putR (pc := 30) (ty9 := (.array .long)) (fin := false) X (fun _ z => by cases List.mem_singleton.mp z; exact fl_J40_11_33) (fun z => nomatch z) (fun z => nomatch z) (by decide +kernel) rfl dJ40_ensureCapacity_30 (fun h10 => ?_)
    refine vv_aload_n (pc := 33) X (kf := 0) (i := 0) rfl 1 rfl dJ40_ensureCapacity_33 ?_
    refine vv_iconst (pc := 34) X dJ40_ensureCapacity_34 ?_
    refine vv_putZ (pc := 35) (fin := false) X (fun _ z => by cases List.mem_singleton.mp z; exact fl_J40_24_33) (fun z => nomatch z) (fun z => nomatch z) dJ40_ensureCapacity_35 (fun h11 => ?_)
    exact vv_sub [] (by rfl) (B_J40_ensureCapacity_38 X _)
theorem m_J40_ensureCapacity {l : Launch} (hl : l.stackTraces = false) {G : va_G} (a0 : Nat) (a1 : Int) (h : HP) : ∀ r hf, f_J40_ensureCapacity a0 a1 h = some (r, hf) → Ct l yJ40_ensureCapacity (ws_ yJ40_ensureCapacity cJ40_ensureCapacity 3 none) 2 130 G h [.ref a0, .int (iI a1)] (jV r) hf :=
  zz_ofW hl (by decide +kernel) (lv := [(0, LR (some a0)), (1, LI a1)]) (by simp [lv_args, lvL, lvV, zz_rfc, zz_rfs, zz_ci, zz_cr, zz_cj, zz_cf, zz_cd]) (by simp [lg_sl, zz_rfc, zz_ci, zz_cr, zz_cj, zz_cf, zz_cd]) (fun _ X => A_J40_ensureCapacity X a0 a1 h)
-- J40_expandTo java/util/BitSet.expandTo(I)V
noncomputable def b_J40_expandTo_22 (h : HP) : Option ((Unit) × HP) :=
  some ((), h)
theorem B_J40_expandTo_22 {M : hp_M} {G : va_G} {h0 : HP} (X : hp_X M G h0 "java/util/BitSet" "expandTo" cJ40_expandTo 3 none [] 3 160) (h : HP) : vv M G h0 3 (hp_End M G h0) jV h 22 [] [] (b_J40_expandTo_22 h) := by
  unfold b_J40_expandTo_22
  exact vv_vreturn X rfl rfl dJ40_expandTo_22
noncomputable def f_J40_expandTo (a0 : Nat) (a1 : Int) (h : HP) : Option ((Unit) × HP) :=
  (rdI h (some a0) [33] 1).bind fun v1 =>
  iLE (a1 + 1) v1
    (b_J40_expandTo_22 h)
    ((rcv h (some a0) [33]).bind fun b4 =>
    hb (f_J40_ensureCapacity b4 (a1 + 1) h) fun _ h3 =>
    (wrI h3 (some a0) [33] 1 (a1 + 1)).bind fun h6 =>
    b_J40_expandTo_22 h6)
theorem A_J40_expandTo {M : hp_M} {G : va_G} {h0 : HP} (X : hp_X M G h0 "java/util/BitSet" "expandTo" cJ40_expandTo 3 none [] 3 160) (a0 : Nat) (a1 : Int) (h : HP) : vv M G h0 3 (hp_End M G h0) jV h 0 [(0, LR (some a0)), (1, LI a1)] [] (f_J40_expandTo a0 a1 h) := by
  unfold f_J40_expandTo
  refine vv_iload_n (pc := 0) X (kf := 1) (i := 1) rfl 1 rfl dJ40_expandTo_0 ?_
  refine vv_iconst (pc := 1) X dJ40_expandTo_1 ?_
  refine vv_iadd (pc := 2) X dJ40_expandTo_2 ?_
  refine vv_istore_n (pc := 3) (lv' := [(2, LI (a1 + 1)), (0, LR (some a0)), (1, LI a1)]) X (kf := 2) (i := 2) rfl (by decide) rfl dJ40_expandTo_3 ?_
  refine vv_aload_n (pc := 4) X (kf := 0) (i := 0) rfl 1 rfl dJ40_expandTo_4 ?_
  refine vv_getI (pc := 5) X (fun _ z => by cases List.mem_singleton.mp z; exact fl_J40_7_33) dJ40_expandTo_5 (fun v1 => ?_)
  refine vv_iload_n (pc := 8) X (kf := 2) (i := 2) rfl 0 rfl dJ40_expandTo_8 ?_
  refine vv_icmp_ge (pc := 9) (tgt := 22) X dJ40_expandTo_9 rfl ?_ ?_
  · exact vv_sub [] (by rfl) (B_J40_expandTo_22 X _)
  · refine vv_aload_n (pc := 12) X (kf := 0) (i := 0) rfl 1 rfl dJ40_expandTo_12 ?_
    refine vv_iload_n (pc := 13) X (kf := 2) (i := 2) rfl 0 rfl dJ40_expandTo_13 ?_
    refine vv_rcv (fun b4 t9 c9 fs9 e5 g9 k9 => ?_)
    cases List.mem_singleton.mp k9
    refine vv_callV (pc := 14) (rest := []) (by rw [e5]; rfl) (fun r8 k8 e8 => zz_callV X (m_J40_ensureCapacity (hlM X) _ _ _ _ _ e8) g9 rfl rfl q2904 q2906 qs41 q204 q2907 nh_J40 rfl (by decide) (by decide) (Nat.le_of_ble_eq_true rfl) dJ40_expandTo_14) (fun v2 h3 => ?_)
    refine vv_aload_n (pc := 17) X (kf := 0) (i := 0) rfl 1 rfl dJ40_expandTo_17 ?_
    refine vv_iload_n (pc := 18) X (kf := 2) (i := 2) rfl 0 rfl dJ40_expandTo_18 ?_
    refine vv_putI (pc := 19) (fin := false) X (fun _ z => by cases List.mem_singleton.mp z; exact fl_J40_7_33) (fun z => nomatch z) (fun z => nomatch z) dJ40_expandTo_19 (fun h6 => ?_)
    exact vv_sub [] (by rfl) (B_J40_expandTo_22 X _)
theorem m_J40_expandTo {l : Launch} (hl : l.stackTraces = false) {G : va_G} (a0 : Nat) (a1 : Int) (h : HP) : ∀ r hf, f_J40_expandTo a0 a1 h = some (r, hf) → Ct l yJ40_expandTo (ws_ yJ40_expandTo cJ40_expandTo 3 none) 3 160 G h [.ref a0, .int (iI a1)] (jV r) hf :=
  zz_ofW hl (by decide +kernel) (lv := [(0, LR (some a0)), (1, LI a1)]) (by simp [lv_args, lvL, lvV, zz_rfc, zz_rfs, zz_ci, zz_cr, zz_cj, zz_cf, zz_cd]) (by simp [lg_sl, zz_rfc, zz_ci, zz_cr, zz_cj, zz_cf, zz_cd]) (fun _ X => A_J40_expandTo X a0 a1 h)
