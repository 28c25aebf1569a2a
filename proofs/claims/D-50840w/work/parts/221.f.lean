/-! STAGE 1c: functions and contracts (printed by gen/mkfuncs.py). -/
set_option maxRecDepth 100000
set_option linter.unusedVariables false
-- X20_does RenamedWords$ScriptReader$2.does()I
noncomputable def b_X20_does_40 (x1 : Int) (h : HP) : Option ((Int) × HP) :=
  some (x1, h)
theorem B_X20_does_40 {M : hp_M} {G : va_G} {h0 : HP} (X : hp_X M G h0 "RenamedWords$ScriptReader$2" "does" cX20_does 3 (some .int) [] 10 304) (x1 : Int) (h : HP) : vv M G h0 3 (hp_End M G h0) jI h 40 [(1, LI x1)] [] (b_X20_does_40 x1 h) := by
  unfold b_X20_does_40
  refine vv_iload_n (pc := 40) X (kf := 1) (i := 1) rfl 0 rfl dX20_does_40 ?_
  exact vv_iretI X rfl rfl dX20_does_41
noncomputable def c_X20_does_4 (r4 : Option Nat → Int → Int → HP → Option ((Int) × HP)) (x0 : Option Nat) (x1 : Int) (x2 : Int) (h : HP) : Option ((Int) × HP) :=
  (rdI h x0 [15] 1).bind fun v1 =>
  iLE v1 x2
    (b_X20_does_40 x1 h)
    (iLT x1 0
      (b_X20_does_40 x1 h)
      ((rdR h x0 [15] 3).bind fun v2 =>
      (rdR h v2 [12] 9).bind fun v3 =>
      (rdR h v3 [0] 0).bind fun v4 =>
      (rdI h x0 [15] 2).bind fun v5 =>
      (rcv h v4 [1]).bind fun b8 =>
      hb (f_X2_erases b8 v5 h) fun v6 h7 =>
      r4 x0 v6 (x2 + 1) h7))
noncomputable def b_X20_does_4 : Option Nat → Int → Int → HP → Option ((Int) × HP) := fx (fun _ _ _ _ => none) (c_X20_does_4) FU
theorem C_X20_does_4 {M : hp_M} {G : va_G} {h0 : HP} (X : hp_X M G h0 "RenamedWords$ScriptReader$2" "does" cX20_does 3 (some .int) [] 10 304) (r4 : Option Nat → Int → Int → HP → Option ((Int) × HP)) (hr4 : ∀ (y0 : Option Nat) (y1 : Int) (y2 : Int) (h : HP), vv M G h0 3 (hp_End M G h0) jI h 4 [(0, LR y0), (1, LI y1), (2, LI y2)] [] (r4 y0 y1 y2 h)) (x0 : Option Nat) (x1 : Int) (x2 : Int) (h : HP) : vv M G h0 3 (hp_End M G h0) jI h 4 [(0, LR x0), (1, LI x1), (2, LI x2)] [] (c_X20_does_4 r4 x0 x1 x2 h) := by
  unfold c_X20_does_4
  refine vv_iload_n (pc := 4) X (kf := 2) (i := 2) rfl 2 rfl dX20_does_4 ?_
  refine vv_aload_n (pc := 5) X (kf := 0) (i := 0) rfl 0 rfl dX20_does_5 ?_
  refine vv_getI (pc := 6) X (fun _ z => by cases List.mem_singleton.mp z; exact fl_X20_7_15) dX20_does_6 (fun v1 => ?_)
  refine vv_icmp_ge (pc := 9) (tgt := 40) X dX20_does_9 rfl ?_ ?_
  · exact vv_sub [1] (by rfl) (B_X20_does_40 X _ _)
  · refine vv_iload_n (pc := 12) X (kf := 1) (i := 1) rfl 1 rfl dX20_does_12 ?_
    refine vv_if_lt (pc := 13) (tgt := 40) X dX20_does_13 rfl ?_ ?_
    · exact vv_sub [1] (by rfl) (B_X20_does_40 X _ _)
    · refine vv_aload_n (pc := 16) X (kf := 0) (i := 0) rfl 0 rfl dX20_does_16 ?_
      refine vv_getR (pc := 17) X (fun _ z => by cases List.mem_singleton.mp z; exact fl_X20_1_15) dX20_does_17 (fun v2 => ?_)
      refine vv_getR (pc := 20) X (fun _ z => by cases List.mem_singleton.mp z; exact fl_X20_14_12) dX20_does_20 (fun v3 => ?_)
      refine vv_getR (pc := 23) X (fun _ z => by cases List.mem_singleton.mp z; exact fl_X20_26_0) dX20_does_23 (fun v4 => ?_)
      refine vv_aload_n (pc := 26) X (kf := 0) (i := 0) rfl 0 rfl dX20_does_26 ?_
      refine vv_getI (pc := 27) X (fun _ z => by cases List.mem_singleton.mp z; exact fl_X20_11_15) dX20_does_27 (fun v5 => ?_)
      refine vv_rcv (fun b8 t9 c9 fs9 e9 g9 k9 => ?_)
      cases List.mem_singleton.mp k9
      refine vv_callI (pc := 30) (rest := []) (by rw [e9]; rfl) (fun r8 k8 e8 => zz_callV X (m_X2_erases (hlM X) _ _ _ _ _ e8) g9 rfl rfl q2766 q2767 q2768 q133 q2769 nh_X2 rfl (by decide) (by decide) (Nat.le_of_ble_eq_true rfl) dX20_does_30) (fun v6 h7 => ?_)
      refine vv_istore_n (pc := 33) (lv' := [(1, LI v6), (0, LR x0), (2, LI x2)]) X (kf := 1) (i := 1) rfl (by decide) rfl dX20_does_33 ?_
      refine vv_iinc (pc := 34) (lv' := [(2, LI (x2 + 1)), (1, LI v6), (0, LR x0)]) X 2 rfl (by decide) rfl dX20_does_34 ?_
      refine vv_goto (pc := 37) (tgt := 4) X dX20_does_37 rfl ?_
      exact vv_sub [2, 1, 0] (by rfl) (hr4 _ _ _ _)
theorem B_X20_does_4 {M : hp_M} {G : va_G} {h0 : HP} (X : hp_X M G h0 "RenamedWords$ScriptReader$2" "does" cX20_does 3 (some .int) [] 10 304) : ∀ (x0 : Option Nat) (x1 : Int) (x2 : Int) (h : HP), vv M G h0 3 (hp_End M G h0) jI h 4 [(0, LR x0), (1, LI x1), (2, LI x2)] [] (b_X20_does_4 x0 x1 x2 h) := by
  unfold b_X20_does_4
  generalize FU = n
  induction n with
  | zero => intro x0 x1 x2 h; exact vv_none
  | succ n ih => exact C_X20_does_4 X _ ih
noncomputable def f_X20_does (a0 : Nat) (h : HP) : Option ((Int) × HP) :=
  b_X20_does_4 (some a0) 0 0 h
theorem A_X20_does {M : hp_M} {G : va_G} {h0 : HP} (X : hp_X M G h0 "RenamedWords$ScriptReader$2" "does" cX20_does 3 (some .int) [] 10 304) (a0 : Nat) (h : HP) : vv M G h0 3 (hp_End M G h0) jI h 0 [(0, LR (some a0))] [] (f_X20_does a0 h) := by
  unfold f_X20_does
  refine vv_iconst (pc := 0) X dX20_does_0 ?_
  refine vv_istore_n (pc := 1) (lv' := [(1, LI 0), (0, LR (some a0))]) X (kf := 1) (i := 1) rfl (by decide) rfl dX20_does_1 ?_
  refine vv_iconst (pc := 2) X dX20_does_2 ?_
  refine vv_istore_n (pc := 3) (lv' := [(2, LI 0), (1, LI 0), (0, LR (some a0))]) X (kf := 2) (i := 2) rfl (by decide) rfl dX20_does_3 ?_
  exact vv_sub [2, 1, 0] (by rfl) (B_X20_does_4 X _ _ _ _)
theorem m_X20_does {l : Launch} (hl : l.stackTraces = false) {G : va_G} (a0 : Nat) (h : HP) : ∀ r hf, f_X20_does a0 h = some (r, hf) → Ct l yX20_does (ws_ yX20_does cX20_does 3 (some .int)) 10 304 G h [.ref a0] (jI r) hf :=
  zz_ofW hl (by decide +kernel) (lv := [(0, LR (some a0))]) (by simp [lv_args, lvL, lvV, zz_rfc, zz_rfs, zz_ci, zz_cr, zz_cj, zz_cf, zz_cd]) (by simp [lg_sl, zz_rfc, zz_ci, zz_cr, zz_cj, zz_cf, zz_cd]) (fun _ X => A_X20_does X a0 h)
-- X2_marks RenamedWords$Desk.marks(I)I
noncomputable def b_X2_marks_76 (x0 : Option Nat) (x2 : Int) (h : HP) : Option ((Int) × HP) :=
  (rdR h x0 [1] 4).bind fun v3 =>
  (aldI h .int v3 3).bind fun v4 =>
  (astI h .int v3 3 (v4 + x2)).bind fun h5 =>
  some (x2, h5)
theorem B_X2_marks_76 {M : hp_M} {G : va_G} {h0 : HP} (X : hp_X M G h0 "RenamedWords$Desk" "marks" cX2_marks 4 (some .int) [] 8 244) (x0 : Option Nat) (x2 : Int) (h : HP) : vv M G h0 4 (hp_End M G h0) jI h 76 [(0, LR x0), (2, LI x2)] [] (b_X2_marks_76 x0 x2 h) := by
  unfold b_X2_marks_76
  refine vv_aload_n (pc := 76) X (kf := 0) (i := 0) rfl 0 rfl dX2_marks_76 ?_
  refine vv_getR (pc := 77) X (fun _ z => by cases List.mem_singleton.mp z; exact fl_X2_31_1) dX2_marks_77 (fun v3 => ?_)
  refine vv_iconst (pc := 80) X dX2_marks_80 ?_
  refine vv_dup2 (pc := 81) X rfl rfl dX2_marks_81 ?_
  refine vv_iaload (pc := 82) X dX2_marks_82 (fun v4 => ?_)
  refine vv_iload_n (pc := 83) X (kf := 2) (i := 2) rfl 1 rfl dX2_marks_83 ?_
  refine vv_iadd (pc := 84) X dX2_marks_84 ?_
  refine vv_iastore (pc := 85) X dX2_marks_85 (fun h5 => ?_)
  refine vv_iload_n (pc := 86) X (kf := 2) (i := 2) rfl 1 rfl dX2_marks_86 ?_
  exact vv_iretI X rfl rfl dX2_marks_87
noncomputable def b_X2_marks_70 (r4 : Option Nat → Int → Int → Int → HP → Option ((Int) × HP)) (x0 : Option Nat) (x1 : Int) (x2 : Int) (x3 : Int) (h : HP) : Option ((Int) × HP) :=
  r4 x0 x1 x2 (x3 + 1) h
theorem B_X2_marks_70 {M : hp_M} {G : va_G} {h0 : HP} (X : hp_X M G h0 "RenamedWords$Desk" "marks" cX2_marks 4 (some .int) [] 8 244) (r4 : Option Nat → Int → Int → Int → HP → Option ((Int) × HP)) (hr4 : ∀ (y0 : Option Nat) (y1 : Int) (y2 : Int) (y3 : Int) (h : HP), vv M G h0 4 (hp_End M G h0) jI h 4 [(0, LR y0), (1, LI y1), (2, LI y2), (3, LI y3)] [] (r4 y0 y1 y2 y3 h)) (x0 : Option Nat) (x1 : Int) (x2 : Int) (x3 : Int) (h : HP) : vv M G h0 4 (hp_End M G h0) jI h 70 [(0, LR x0), (1, LI x1), (2, LI x2), (3, LI x3)] [] (b_X2_marks_70 r4 x0 x1 x2 x3 h) := by
  unfold b_X2_marks_70
  refine vv_iinc (pc := 70) (lv' := [(3, LI (x3 + 1)), (0, LR x0), (1, LI x1), (2, LI x2)]) X 3 rfl (by decide) rfl dX2_marks_70 ?_
  refine vv_goto (pc := 73) (tgt := 4) X dX2_marks_73 rfl ?_
  exact vv_sub [1, 2, 3, 0] (by rfl) (hr4 _ _ _ _ _)
noncomputable def c_X2_marks_4 (r4 : Option Nat → Int → Int → Int → HP → Option ((Int) × HP)) (x0 : Option Nat) (x1 : Int) (x2 : Int) (x3 : Int) (h : HP) : Option ((Int) × HP) :=
  (rdR h x0 [1] 0).bind fun v1 =>
  (rdI h v1 [3] 3).bind fun v2 =>
  iLE v2 x3
    (b_X2_marks_76 x0 x2 h)
    ((rdR h x0 [1] 3).bind fun v6 =>
    (rdI h v6 [4] 2).bind fun v7 =>
    iLE 60 v7
      (b_X2_marks_76 x0 x2 h)
      ((rcv h x0 [1]).bind fun b10 =>
      hb (f_X2_isAt b10 x1 x3 h) fun v8 h9 =>
      iEQ v8 0
        (b_X2_marks_70 r4 x0 x1 x2 x3 h9)
        ((rdR h9 x0 [1] 3).bind fun v12 =>
        (rcv h9 v12 [4]).bind fun b15 =>
        hb (f_X6_of b15 x1 x3 h9) fun v13 h14 =>
        rNU v13
          ((rdR h14 x0 [1] 3).bind fun v17 =>
          hb (nwO h14 (tgR h14 x0) 22 [.inl 0, .inl 0, .inr (.inl none)] 3) fun v18 h19 =>
          (v18).bind fun b22 =>
          hb (f_X27_init b22 x1 x3 h19) fun _ h21 =>
          (rcv h21 v17 [4]).bind fun b26 =>
          hb (f_X6_adds b26 v18 h21) fun _ h25 =>
          b_X2_marks_70 r4 x0 x1 (x2 + 1) x3 h25)
          (b_X2_marks_70 r4 x0 x1 x2 x3 h14))))
noncomputable def b_X2_marks_4 : Option Nat → Int → Int → Int → HP → Option ((Int) × HP) := fx (fun _ _ _ _ _ => none) (c_X2_marks_4) FU
theorem C_X2_marks_4 {M : hp_M} {G : va_G} {h0 : HP} (X : hp_X M G h0 "RenamedWords$Desk" "marks" cX2_marks 4 (some .int) [] 8 244) (r4 : Option Nat → Int → Int → Int → HP → Option ((Int) × HP)) (hr4 : ∀ (y0 : Option Nat) (y1 : Int) (y2 : Int) (y3 : Int) (h : HP), vv M G h0 4 (hp_End M G h0) jI h 4 [(0, LR y0), (1, LI y1), (2, LI y2), (3, LI y3)] [] (r4 y0 y1 y2 y3 h)) (x0 : Option Nat) (x1 : Int) (x2 : Int) (x3 : Int) (h : HP) : vv M G h0 4 (hp_End M G h0) jI h 4 [(0, LR x0), (1, LI x1), (2, LI x2), (3, LI x3)] [] (c_X2_marks_4 r4 x0 x1 x2 x3 h) := by
  unfold c_X2_marks_4
  refine vv_iload_n (pc := 4) X (kf := 3) (i := 3) rfl 3 rfl dX2_marks_4 ?_
  refine vv_aload_n (pc := 5) X (kf := 0) (i := 0) rfl 0 rfl dX2_marks_5 ?_
  refine vv_getR (pc := 6) X (fun _ z => by cases List.mem_singleton.mp z; exact fl_X2_12_1) dX2_marks_6 (fun v1 => ?_)
  refine vv_getI (pc := 9) X (fun _ z => by cases List.mem_singleton.mp z; exact fl_X2_123_3) dX2_marks_9 (fun v2 => ?_)
  refine vv_icmp_ge (pc := 12) (tgt := 76) X dX2_marks_12 rfl ?_ ?_
  · exact vv_sub [0, 2] (by rfl) (B_X2_marks_76 X _ _ _)
  · refine vv_aload_n (pc := 15) X (kf := 0) (i := 0) rfl 0 rfl dX2_marks_15 ?_
    refine vv_getR (pc := 16) X (fun _ z => by cases List.mem_singleton.mp z; exact fl_X2_27_1) dX2_marks_16 (fun v6 => ?_)
    refine vv_getI (pc := 19) X (fun _ z => by cases List.mem_singleton.mp z; exact fl_X2_206_4) dX2_marks_19 (fun v7 => ?_)
    refine vv_bipush (pc := 22) X (by decide) dX2_marks_22 ?_
    refine vv_icmp_ge (pc := 24) (tgt := 76) X dX2_marks_24 rfl ?_ ?_
    · exact vv_sub [0, 2] (by rfl) (B_X2_marks_76 X _ _ _)
    · refine vv_aload_n (pc := 27) X (kf := 0) (i := 0) rfl 0 rfl dX2_marks_27 ?_
      refine vv_iload_n (pc := 28) X (kf := 1) (i := 1) rfl 1 rfl dX2_marks_28 ?_
      refine vv_iload_n (pc := 29) X (kf := 3) (i := 3) rfl 3 rfl dX2_marks_29 ?_
      refine vv_rcv (fun b10 t9 c9 fs9 e11 g9 k9 => ?_)
      cases List.mem_singleton.mp k9
      refine vv_callI (pc := 30) (rest := []) (by rw [e11]; rfl) (fun r8 k8 e8 => zz_callV X (m_X2_isAt (hlM X) _ _ _ _ _ _ e8) g9 rfl rfl q2596 q2597 q2598 q133 q2599 nh_X2 rfl (by decide) (by decide) (Nat.le_of_ble_eq_true rfl) dX2_marks_30) (fun v8 h9 => ?_)
      refine vv_if_eq (pc := 33) (tgt := 70) X dX2_marks_33 rfl ?_ ?_
      · exact B_X2_marks_70 X r4 hr4 _ _ _ _ _
      · refine vv_aload_n (pc := 36) X (kf := 0) (i := 0) rfl 0 rfl dX2_marks_36 ?_
        refine vv_getR (pc := 37) X (fun _ z => by cases List.mem_singleton.mp z; exact fl_X2_27_1) dX2_marks_37 (fun v12 => ?_)
        refine vv_iload_n (pc := 40) X (kf := 1) (i := 1) rfl 1 rfl dX2_marks_40 ?_
        refine vv_iload_n (pc := 41) X (kf := 3) (i := 3) rfl 3 rfl dX2_marks_41 ?_
        refine vv_rcv (fun b15 t9 c9 fs9 e16 g9 k9 => ?_)
        cases List.mem_singleton.mp k9
        refine vv_callR (pc := 42) (rest := []) (by rw [e16]; rfl) (fun r8 k8 e8 => zz_callV X (m_X6_of (hlM X) _ _ _ _ _ _ e8) g9 rfl rfl q2666 q2667 q2668 q158 q2669 nh_X6 rfl (by decide) (by decide) (Nat.le_of_ble_eq_true rfl) dX2_marks_42) (fun v13 h14 => ?_)
        refine vv_ifnull (pc := 45) (tgt := 51) X dX2_marks_45 rfl ?_ ?_
        · refine vv_aload_n (pc := 51) X (kf := 0) (i := 0) rfl 0 rfl dX2_marks_51 ?_
          refine vv_getR (pc := 52) X (fun _ z => by cases List.mem_singleton.mp z; exact fl_X2_27_1) dX2_marks_52 (fun v17 => ?_)
          refine vv_new (pc := 55) X tyX27 rfl in_X27 tyX27_ok q2378 q2379 q195 ndX27 (by decide) dX2_marks_55 (fun v18 h19 => ?_)
          refine vv_dup (pc := 58) X rfl dX2_marks_58 ?_
          refine vv_iload_n (pc := 59) X (kf := 1) (i := 1) rfl 1 rfl dX2_marks_59 ?_
          refine vv_iload_n (pc := 60) X (kf := 3) (i := 3) rfl 3 rfl dX2_marks_60 ?_
          refine vv_bnd (fun b22 e23 => ?_)
          refine vv_callV (pc := 61) (rest := [LR v18, LR v17]) (by rw [e23]; rfl) (fun r8 k8 e8 => zz_callI X (m_X27_init (hlM X) _ _ _ _ _ _ e8) q2380 q2381 q195 q2382 rfl nh_X27 rfl (by decide) (by decide) (Nat.le_of_ble_eq_true rfl) dX2_marks_61) (fun v20 h21 => ?_)
          refine vv_rcv (fun b26 t9 c9 fs9 e27 g9 k9 => ?_)
          cases List.mem_singleton.mp k9
          refine vv_callV (pc := 64) (rest := []) (by rw [e27]; rfl) (fun r8 k8 e8 => zz_callV X (m_X6_adds (hlM X) _ _ _ _ _ e8) g9 rfl rfl q2401 q2402 q2403 q158 q2404 nh_X6 rfl (by decide) (by decide) (Nat.le_of_ble_eq_true rfl) dX2_marks_64) (fun v24 h25 => ?_)
          refine vv_iinc (pc := 67) (lv' := [(2, LI (x2 + 1)), (0, LR x0), (1, LI x1), (3, LI x3)]) X 2 rfl (by decide) rfl dX2_marks_67 ?_
          exact vv_sub [1, 2, 0, 3] (by rfl) (B_X2_marks_70 X r4 hr4 _ _ _ _ _)
        · refine vv_goto (pc := 48) (tgt := 70) X dX2_marks_48 rfl ?_
          exact B_X2_marks_70 X r4 hr4 _ _ _ _ _
theorem B_X2_marks_4 {M : hp_M} {G : va_G} {h0 : HP} (X : hp_X M G h0 "RenamedWords$Desk" "marks" cX2_marks 4 (some .int) [] 8 244) : ∀ (x0 : Option Nat) (x1 : Int) (x2 : Int) (x3 : Int) (h : HP), vv M G h0 4 (hp_End M G h0) jI h 4 [(0, LR x0), (1, LI x1), (2, LI x2), (3, LI x3)] [] (b_X2_marks_4 x0 x1 x2 x3 h) := by
  unfold b_X2_marks_4
  generalize FU = n
  induction n with
  | zero => intro x0 x1 x2 x3 h; exact vv_none
  | succ n ih => exact C_X2_marks_4 X _ ih
noncomputable def f_X2_marks (a0 : Nat) (a1 : Int) (h : HP) : Option ((Int) × HP) :=
  b_X2_marks_4 (some a0) a1 0 0 h
theorem A_X2_marks {M : hp_M} {G : va_G} {h0 : HP} (X : hp_X M G h0 "RenamedWords$Desk" "marks" cX2_marks 4 (some .int) [] 8 244) (a0 : Nat) (a1 : Int) (h : HP) : vv M G h0 4 (hp_End M G h0) jI h 0 [(0, LR (some a0)), (1, LI a1)] [] (f_X2_marks a0 a1 h) := by
  unfold f_X2_marks
  refine vv_iconst (pc := 0) X dX2_marks_0 ?_
  refine vv_istore_n (pc := 1) (lv' := [(2, LI 0), (0, LR (some a0)), (1, LI a1)]) X (kf := 2) (i := 2) rfl (by decide) rfl dX2_marks_1 ?_
  refine vv_iconst (pc := 2) X dX2_marks_2 ?_
  refine vv_istore_n (pc := 3) (lv' := [(3, LI 0), (2, LI 0), (0, LR (some a0)), (1, LI a1)]) X (kf := 3) (i := 3) rfl (by decide) rfl dX2_marks_3 ?_
  exact vv_sub [2, 3, 1, 0] (by rfl) (B_X2_marks_4 X _ _ _ _ _)
theorem m_X2_marks {l : Launch} (hl : l.stackTraces = false) {G : va_G} (a0 : Nat) (a1 : Int) (h : HP) : ∀ r hf, f_X2_marks a0 a1 h = some (r, hf) → Ct l yX2_marks (ws_ yX2_marks cX2_marks 4 (some .int)) 8 244 G h [.ref a0, .int (iI a1)] (jI r) hf :=
  zz_ofW hl (by decide +kernel) (lv := [(0, LR (some a0)), (1, LI a1)]) (by simp [lv_args, lvL, lvV, zz_rfc, zz_rfs, zz_ci, zz_cr, zz_cj, zz_cf, zz_cd]) (by simp [lg_sl, zz_rfc, zz_ci, zz_cr, zz_cj, zz_cf, zz_cd]) (fun _ X => A_X2_marks X a0 a1 h)
-- X21_does RenamedWords$ScriptReader$3.does()I
noncomputable def f_X21_does (a0 : Nat) (h : HP) : Option ((Int) × HP) :=
  (rdR h (some a0) [16] 2).bind fun v1 =>
  (rdR h v1 [12] 9).bind fun v2 =>
  (rdR h v2 [0] 0).bind fun v3 =>
  (rdI h (some a0) [16] 1).bind fun v4 =>
  (rcv h v3 [1]).bind fun b7 =>
  hb (f_X2_marks b7 v4 h) fun v5 h6 =>
  some (v5, h6)
theorem A_X21_does {M : hp_M} {G : va_G} {h0 : HP} (X : hp_X M G h0 "RenamedWords$ScriptReader$3" "does" cX21_does 1 (some .int) [] 9 275) (a0 : Nat) (h : HP) : vv M G h0 1 (hp_End M G h0) jI h 0 [(0, LR (some a0))] [] (f_X21_does a0 h) := by
  unfold f_X21_does
  refine vv_aload_n (pc := 0) X (kf := 0) (i := 0) rfl 0 rfl dX21_does_0 ?_
  refine vv_getR (pc := 1) X (fun _ z => by cases List.mem_singleton.mp z; exact fl_X21_1_16) dX21_does_1 (fun v1 => ?_)
  refine vv_getR (pc := 4) X (fun _ z => by cases List.mem_singleton.mp z; exact fl_X21_11_12) dX21_does_4 (fun v2 => ?_)
  refine vv_getR (pc := 7) X (fun _ z => by cases List.mem_singleton.mp z; exact fl_X21_23_0) dX21_does_7 (fun v3 => ?_)
  refine vv_aload_n (pc := 10) X (kf := 0) (i := 0) rfl 0 rfl dX21_does_10 ?_
  refine vv_getI (pc := 11) X (fun _ z => by cases List.mem_singleton.mp z; exact fl_X21_7_16) dX21_does_11 (fun v4 => ?_)
  refine vv_rcv (fun b7 t9 c9 fs9 e8 g9 k9 => ?_)
  cases List.mem_singleton.mp k9
  refine vv_callI (pc := 14) (rest := []) (by rw [e8]; rfl) (fun r8 k8 e8 => zz_callV X (m_X2_marks (hlM X) _ _ _ _ _ e8) g9 rfl rfl q2777 q2778 q2779 q133 q2780 nh_X2 rfl (by decide) (by decide) (Nat.le_of_ble_eq_true rfl) dX21_does_14) (fun v5 h6 => ?_)
  exact vv_iretI X rfl rfl dX21_does_17
theorem m_X21_does {l : Launch} (hl : l.stackTraces = false) {G : va_G} (a0 : Nat) (h : HP) : ∀ r hf, f_X21_does a0 h = some (r, hf) → Ct l yX21_does (ws_ yX21_does cX21_does 1 (some .int)) 9 275 G h [.ref a0] (jI r) hf :=
  zz_ofW hl (by decide +kernel) (lv := [(0, LR (some a0))]) (by simp [lv_args, lvL, lvV, zz_rfc, zz_rfs, zz_ci, zz_cr, zz_cj, zz_cf, zz_cd]) (by simp [lg_sl, zz_rfc, zz_ci, zz_cr, zz_cj, zz_cf, zz_cd]) (fun _ X => A_X21_does X a0 h)
-- X2_unmarks RenamedWords$Desk.unmarks(I)I
noncomputable def c_X2_unmarks_35 (r35 : Option Nat → Int → Option Nat → Int → HP → Option ((Int) × HP)) (x0 : Option Nat) (x1 : Int) (x2 : Option Nat) (x4 : Int) (h : HP) : Option ((Int) × HP) :=
  iLE x1 x4
    ((rcv h x2 [21]).bind fun b14 =>
    hb (f_X26_remove b14 h) fun _ h13 =>
    (rdR h13 x0 [1] 4).bind fun v16 =>
    (aldI h13 .int v16 5).bind fun v17 =>
    (astI h13 .int v16 5 (v17 + 1)).bind fun h18 =>
    (rdR h18 x0 [1] 3).bind fun v19 =>
    (rdI h18 v19 [4] 2).bind fun v20 =>
    some (v20, h18))
    ((rcv h x2 [21]).bind fun b23 =>
    hb (f_X26_next b23 h) fun v21 h22 =>
    (chk h22 v21 [22]).bind fun _ =>
    r35 x0 x1 x2 (x4 + 1) h22)
noncomputable def b_X2_unmarks_35 : Option Nat → Int → Option Nat → Int → HP → Option ((Int) × HP) := fx (fun _ _ _ _ _ => none) (c_X2_unmarks_35) FU
theorem C_X2_unmarks_35 {M : hp_M} {G : va_G} {h0 : HP} (X : hp_X M G h0 "RenamedWords$Desk" "unmarks" cX2_unmarks 5 (some .int) [] 3 85) (r35 : Option Nat → Int → Option Nat → Int → HP → Option ((Int) × HP)) (hr35 : ∀ (y0 : Option Nat) (y1 : Int) (y2 : Option Nat) (y4 : Int) (h : HP), vv M G h0 5 (hp_End M G h0) jI h 35 [(0, LR y0), (1, LI y1), (2, LR y2), (4, LI y4)] [] (r35 y0 y1 y2 y4 h)) (x0 : Option Nat) (x1 : Int) (x2 : Option Nat) (x4 : Int) (h : HP) : vv M G h0 5 (hp_End M G h0) jI h 35 [(0, LR x0), (1, LI x1), (2, LR x2), (4, LI x4)] [] (c_X2_unmarks_35 r35 x0 x1 x2 x4 h) := by
  unfold c_X2_unmarks_35
  refine vv_iload (pc := 35) X 3 rfl dX2_unmarks_35 ?_
  refine vv_iload_n (pc := 37) X (kf := 1) (i := 1) rfl 1 rfl dX2_unmarks_37 ?_
  refine vv_icmp_ge (pc := 38) (tgt := 57) X dX2_unmarks_38 rfl ?_ ?_
  · refine vv_aload_n (pc := 57) X (kf := 2) (i := 2) rfl 2 rfl dX2_unmarks_57 ?_
    refine vv_rcv (fun b14 t9 c9 fs9 e15 g9 k9 => ?_)
    cases List.mem_singleton.mp k9
    refine vv_callV (pc := 58) (rest := []) (by rw [e15]; rfl) (fun r8 k8 e8 => zz_callF X (m_X26_remove (hlM X) _ _ _ _ e8) g9 rfl q2671 (List.mem_of_getElem? (i := 7) rfl) q2676 q2674 q191 q2678 nh_xjava_util_Iterator rfl (by decide) (by decide) (Nat.le_of_ble_eq_true rfl) dX2_unmarks_58) (fun v12 h13 => ?_)
    refine vv_aload_n (pc := 63) X (kf := 0) (i := 0) rfl 0 rfl dX2_unmarks_63 ?_
    refine vv_getR (pc := 64) X (fun _ z => by cases List.mem_singleton.mp z; exact fl_X2_31_1) dX2_unmarks_64 (fun v16 => ?_)
    refine vv_iconst (pc := 67) X dX2_unmarks_67 ?_
    refine vv_dup2 (pc := 68) X rfl rfl dX2_unmarks_68 ?_
    refine vv_iaload (pc := 69) X dX2_unmarks_69 (fun v17 => ?_)
    refine vv_iconst (pc := 70) X dX2_unmarks_70 ?_
    refine vv_iadd (pc := 71) X dX2_unmarks_71 ?_
    refine vv_iastore (pc := 72) X dX2_unmarks_72 (fun h18 => ?_)
    refine vv_aload_n (pc := 73) X (kf := 0) (i := 0) rfl 0 rfl dX2_unmarks_73 ?_
    refine vv_getR (pc := 74) X (fun _ z => by cases List.mem_singleton.mp z; exact fl_X2_27_1) dX2_unmarks_74 (fun v19 => ?_)
    refine vv_getI (pc := 77) X (fun _ z => by cases List.mem_singleton.mp z; exact fl_X2_206_4) dX2_unmarks_77 (fun v20 => ?_)
    exact vv_iretI X rfl rfl dX2_unmarks_80
  · refine vv_aload_n (pc := 41) X (kf := 2) (i := 2) rfl 2 rfl dX2_unmarks_41 ?_
    refine vv_rcv (fun b23 t9 c9 fs9 e24 g9 k9 => ?_)
    cases List.mem_singleton.mp k9
    refine vv_callR (pc := 42) (rest := []) (by rw [e24]; rfl) (fun r8 k8 e8 => zz_callF X (m_X26_next (hlM X) _ _ _ _ e8) g9 rfl q2204 (List.mem_of_getElem? (i := 6) rfl) q2209 q2207 q191 q2211 nh_xjava_util_Iterator rfl (by decide) (by decide) (Nat.le_of_ble_eq_true rfl) dX2_unmarks_42) (fun v21 h22 => ?_)
    refine vv_checkcast (pc := 47) X ⟨q2378, (fun _ z => by cases List.mem_singleton.mp z; exact ⟨_, rfl, Or.inl rfl⟩)⟩ dX2_unmarks_47 ?_
    refine vv_astore_n (pc := 50) (lv' := [(3, LR v21), (0, LR x0), (1, LI x1), (2, LR x2), (4, LI x4)]) X (kf := 3) (i := 3) rfl (by decide) rfl dX2_unmarks_50 ?_
    refine vv_iinc (pc := 51) (lv' := [(4, LI (x4 + 1)), (3, LR v21), (0, LR x0), (1, LI x1), (2, LR x2)]) X 4 rfl (by decide) rfl dX2_unmarks_51 ?_
    refine vv_goto (pc := 54) (tgt := 35) X dX2_unmarks_54 rfl ?_
    exact vv_sub [2, 3, 4, 0] (by rfl) (hr35 _ _ _ _ _)
theorem B_X2_unmarks_35 {M : hp_M} {G : va_G} {h0 : HP} (X : hp_X M G h0 "RenamedWords$Desk" "unmarks" cX2_unmarks 5 (some .int) [] 3 85) : ∀ (x0 : Option Nat) (x1 : Int) (x2 : Option Nat) (x4 : Int) (h : HP), vv M G h0 5 (hp_End M G h0) jI h 35 [(0, LR x0), (1, LI x1), (2, LR x2), (4, LI x4)] [] (b_X2_unmarks_35 x0 x1 x2 x4 h) := by
  unfold b_X2_unmarks_35
  generalize FU = n
  induction n with
  | zero => intro x0 x1 x2 x4 h; exact vv_none
  | succ n ih => exact C_X2_unmarks_35 X _ ih
noncomputable def f_X2_unmarks (a0 : Nat) (a1 : Int) (h : HP) : Option ((Int) × HP) :=
  (rdR h (some a0) [1] 3).bind fun v1 =>
  (rdI h v1 [4] 2).bind fun v2 =>
  iLT a1 v2
    ((rdR h (some a0) [1] 3).bind fun v3 =>
    (rcv h v3 [4]).bind fun b6 =>
    hb (f_X6_iterator b6 h) fun v4 h5 =>
    (rcv h5 v4 [21]).bind fun b10 =>
    hb (f_X26_next b10 h5) fun v8 h9 =>
    (chk h9 v8 [22]).bind fun _ =>
    b_X2_unmarks_35 (some a0) a1 v4 0 h9)
    (some ((-5), h))
theorem A_X2_unmarks {M : hp_M} {G : va_G} {h0 : HP} (X : hp_X M G h0 "RenamedWords$Desk" "unmarks" cX2_unmarks 5 (some .int) [] 3 85) (a0 : Nat) (a1 : Int) (h : HP) : vv M G h0 5 (hp_End M G h0) jI h 0 [(0, LR (some a0)), (1, LI a1)] [] (f_X2_unmarks a0 a1 h) := by
  unfold f_X2_unmarks
  refine vv_iload_n (pc := 0) X (kf := 1) (i := 1) rfl 1 rfl dX2_unmarks_0 ?_
  refine vv_aload_n (pc := 1) X (kf := 0) (i := 0) rfl 0 rfl dX2_unmarks_1 ?_
  refine vv_getR (pc := 2) X (fun _ z => by cases List.mem_singleton.mp z; exact fl_X2_27_1) dX2_unmarks_2 (fun v1 => ?_)
  refine vv_getI (pc := 5) X (fun _ z => by cases List.mem_singleton.mp z; exact fl_X2_206_4) dX2_unmarks_5 (fun v2 => ?_)
  refine vv_icmp_lt (pc := 8) (tgt := 14) X dX2_unmarks_8 rfl ?_ ?_
  · refine vv_aload_n (pc := 14) X (kf := 0) (i := 0) rfl 0 rfl dX2_unmarks_14 ?_
    refine vv_getR (pc := 15) X (fun _ z => by cases List.mem_singleton.mp z; exact fl_X2_27_1) dX2_unmarks_15 (fun v3 => ?_)
    refine vv_rcv (fun b6 t9 c9 fs9 e7 g9 k9 => ?_)
    cases List.mem_singleton.mp k9
    refine vv_callR (pc := 18) (rest := []) (by rw [e7]; rfl) (fun r8 k8 e8 => zz_callV X (m_X6_iterator (hlM X) _ _ _ _ e8) g9 rfl rfl q2147 q2148 q2149 q158 q2150 nh_X6 rfl (by decide) (by decide) (Nat.le_of_ble_eq_true rfl) dX2_unmarks_18) (fun v4 h5 => ?_)
    refine vv_astore_n (pc := 21) (lv' := [(2, LR v4), (0, LR (some a0)), (1, LI a1)]) X (kf := 2) (i := 2) rfl (by decide) rfl dX2_unmarks_21 ?_
    refine vv_aload_n (pc := 22) X (kf := 2) (i := 2) rfl 0 rfl dX2_unmarks_22 ?_
    refine vv_rcv (fun b10 t9 c9 fs9 e11 g9 k9 => ?_)
    cases List.mem_singleton.mp k9
    refine vv_callR (pc := 23) (rest := []) (by rw [e11]; rfl) (fun r8 k8 e8 => zz_callF X (m_X26_next (hlM X) _ _ _ _ e8) g9 rfl q2204 (List.mem_of_getElem? (i := 6) rfl) q2209 q2207 q191 q2211 nh_xjava_util_Iterator rfl (by decide) (by decide) (Nat.le_of_ble_eq_true rfl) dX2_unmarks_23) (fun v8 h9 => ?_)
    refine vv_checkcast (pc := 28) X ⟨q2378, (fun _ z => by cases List.mem_singleton.mp z; exact ⟨_, rfl, Or.inl rfl⟩)⟩ dX2_unmarks_28 ?_
    refine vv_astore_n (pc := 31) (lv' := [(3, LR v8), (2, LR v4), (0, LR (some a0)), (1, LI a1)]) X (kf := 3) (i := 3) rfl (by decide) rfl dX2_unmarks_31 ?_
    refine vv_iconst (pc := 32) X dX2_unmarks_32 ?_
    refine vv_istore (pc := 33) (lv' := [(4, LI 0), (3, LR v8), (2, LR v4), (0, LR (some a0)), (1, LI a1)]) X (by decide) rfl dX2_unmarks_33 ?_
    exact vv_sub [3, 4, 2, 0] (by rfl) (B_X2_unmarks_35 X _ _ _ _ _)
  · refine vv_bipush (pc := 11) X (by decide) dX2_unmarks_11 ?_
    exact vv_iretI X rfl rfl dX2_unmarks_13
theorem m_X2_unmarks {l : Launch} (hl : l.stackTraces = false) {G : va_G} (a0 : Nat) (a1 : Int) (h : HP) : ∀ r hf, f_X2_unmarks a0 a1 h = some (r, hf) → Ct l yX2_unmarks (ws_ yX2_unmarks cX2_unmarks 5 (some .int)) 3 85 G h [.ref a0, .int (iI a1)] (jI r) hf :=
  zz_ofW hl (by decide +kernel) (lv := [(0, LR (some a0)), (1, LI a1)]) (by simp [lv_args, lvL, lvV, zz_rfc, zz_rfs, zz_ci, zz_cr, zz_cj, zz_cf, zz_cd]) (by simp [lg_sl, zz_rfc, zz_ci, zz_cr, zz_cj, zz_cf, zz_cd]) (fun _ X => A_X2_unmarks X a0 a1 h)
-- X22_does RenamedWords$ScriptReader$4.does()I
noncomputable def f_X22_does (a0 : Nat) (h : HP) : Option ((Int) × HP) :=
  (rdR h (some a0) [17] 2).bind fun v1 =>
  (rdR h v1 [12] 9).bind fun v2 =>
  (rdR h v2 [0] 0).bind fun v3 =>
  (rdI h (some a0) [17] 1).bind fun v4 =>
  (rcv h v3 [1]).bind fun b7 =>
  hb (f_X2_unmarks b7 v4 h) fun v5 h6 =>
  some (v5, h6)
theorem A_X22_does {M : hp_M} {G : va_G} {h0 : HP} (X : hp_X M G h0 "RenamedWords$ScriptReader$4" "does" cX22_does 1 (some .int) [] 4 117) (a0 : Nat) (h : HP) : vv M G h0 1 (hp_End M G h0) jI h 0 [(0, LR (some a0))] [] (f_X22_does a0 h) := by
  unfold f_X22_does
  refine vv_aload_n (pc := 0) X (kf := 0) (i := 0) rfl 0 rfl dX22_does_0 ?_
  refine vv_getR (pc := 1) X (fun _ z => by cases List.mem_singleton.mp z; exact fl_X22_1_17) dX22_does_1 (fun v1 => ?_)
  refine vv_getR (pc := 4) X (fun _ z => by cases List.mem_singleton.mp z; exact fl_X22_11_12) dX22_does_4 (fun v2 => ?_)
  refine vv_getR (pc := 7) X (fun _ z => by cases List.mem_singleton.mp z; exact fl_X22_23_0) dX22_does_7 (fun v3 => ?_)
  refine vv_aload_n (pc := 10) X (kf := 0) (i := 0) rfl 0 rfl dX22_does_10 ?_
  refine vv_getI (pc := 11) X (fun _ z => by cases List.mem_singleton.mp z; exact fl_X22_7_17) dX22_does_11 (fun v4 => ?_)
  refine vv_rcv (fun b7 t9 c9 fs9 e8 g9 k9 => ?_)
  cases List.mem_singleton.mp k9
  refine vv_callI (pc := 14) (rest := []) (by rw [e8]; rfl) (fun r8 k8 e8 => zz_callV X (m_X2_unmarks (hlM X) _ _ _ _ _ e8) g9 rfl rfl q2784 q2785 q2786 q133 q2787 nh_X2 rfl (by decide) (by decide) (Nat.le_of_ble_eq_true rfl) dX22_does_14) (fun v5 h6 => ?_)
  exact vv_iretI X rfl rfl dX22_does_17
theorem m_X22_does {l : Launch} (hl : l.stackTraces = false) {G : va_G} (a0 : Nat) (h : HP) : ∀ r hf, f_X22_does a0 h = some (r, hf) → Ct l yX22_does (ws_ yX22_does cX22_does 1 (some .int)) 4 117 G h [.ref a0] (jI r) hf :=
  zz_ofW hl (by decide +kernel) (lv := [(0, LR (some a0))]) (by simp [lv_args, lvL, lvV, zz_rfc, zz_rfs, zz_ci, zz_cr, zz_cj, zz_cf, zz_cd]) (by simp [lg_sl, zz_rfc, zz_ci, zz_cr, zz_cj, zz_cf, zz_cd]) (fun _ X => A_X22_does X a0 h)
-- X2_isWindow RenamedWords$Desk.isWindow(II)Z
noncomputable def b_X2_isWindow_26 (s0 : Int) (h : HP) : Option ((Int) × HP) :=
  rtZ s0 (some (s0, h))
theorem B_X2_isWindow_26 {M : hp_M} {G : va_G} {h0 : HP} (X : hp_X M G h0 "RenamedWords$Desk" "isWindow" cX2_isWindow 3 (some .boolean) [] 2 62) (s0 : Int) (h : HP) : vv M G h0 3 (hp_End M G h0) jI h 26 [] [LI s0] (b_X2_isWindow_26 s0 h) := by
  unfold b_X2_isWindow_26
  exact vv_iretZ X rfl rfl dX2_isWindow_26
noncomputable def b_X2_isWindow_25 (h : HP) : Option ((Int) × HP) :=
  b_X2_isWindow_26 0 h
theorem B_X2_isWindow_25 {M : hp_M} {G : va_G} {h0 : HP} (X : hp_X M G h0 "RenamedWords$Desk" "isWindow" cX2_isWindow 3 (some .boolean) [] 2 62) (h : HP) : vv M G h0 3 (hp_End M G h0) jI h 25 [] [] (b_X2_isWindow_25 h) := by
  unfold b_X2_isWindow_25
  refine vv_iconst (pc := 25) X dX2_isWindow_25 ?_
  exact B_X2_isWindow_26 X _ _
noncomputable def f_X2_isWindow (a0 : Nat) (a1 : Int) (a2 : Int) (h : HP) : Option ((Int) × HP) :=
  (rcv h (some a0) [1]).bind fun b3 =>
  hb (f_X2_isPlace b3 a1 h) fun v1 h2 =>
  iEQ v1 0
    (b_X2_isWindow_25 h2)
    ((rdR h2 (some a0) [1] 0).bind fun v5 =>
    (rdI h2 v5 [3] 3).bind fun v6 =>
    iLT v6 (a1 + a2)
      (b_X2_isWindow_25 h2)
      (b_X2_isWindow_26 1 h2))
theorem A_X2_isWindow {M : hp_M} {G : va_G} {h0 : HP} (X : hp_X M G h0 "RenamedWords$Desk" "isWindow" cX2_isWindow 3 (some .boolean) [] 2 62) (a0 : Nat) (a1 : Int) (a2 : Int) (h : HP) : vv M G h0 3 (hp_End M G h0) jI h 0 [(0, LR (some a0)), (1, LI a1), (2, LI a2)] [] (f_X2_isWindow a0 a1 a2 h) := by
  unfold f_X2_isWindow
  refine vv_aload_n (pc := 0) X (kf := 0) (i := 0) rfl 0 rfl dX2_isWindow_0 ?_
  refine vv_iload_n (pc := 1) X (kf := 1) (i := 1) rfl 1 rfl dX2_isWindow_1 ?_
  refine vv_rcv (fun b3 t9 c9 fs9 e4 g9 k9 => ?_)
  cases List.mem_singleton.mp k9
  refine vv_callI (pc := 2) (rest := []) (by rw [e4]; rfl) (fun r8 k8 e8 => zz_callV X (m_X2_isPlace (hlM X) _ _ _ _ _ e8) g9 rfl rfl q2583 q2584 q2585 q133 q2586 nh_X2 rfl (by decide) (by decide) (Nat.le_of_ble_eq_true rfl) dX2_isWindow_2) (fun v1 h2 => ?_)
  refine vv_if_eq (pc := 5) (tgt := 25) X dX2_isWindow_5 rfl ?_ ?_
  · exact vv_sub [] (by rfl) (B_X2_isWindow_25 X _)
  · refine vv_iload_n (pc := 8) X (kf := 1) (i := 1) rfl 1 rfl dX2_isWindow_8 ?_
    refine vv_iload_n (pc := 9) X (kf := 2) (i := 2) rfl 2 rfl dX2_isWindow_9 ?_
    refine vv_iadd (pc := 10) X dX2_isWindow_10 ?_
    refine vv_aload_n (pc := 11) X (kf := 0) (i := 0) rfl 0 rfl dX2_isWindow_11 ?_
    refine vv_getR (pc := 12) X (fun _ z => by cases List.mem_singleton.mp z; exact fl_X2_12_1) dX2_isWindow_12 (fun v5 => ?_)
    refine vv_getI (pc := 15) X (fun _ z => by cases List.mem_singleton.mp z; exact fl_X2_123_3) dX2_isWindow_15 (fun v6 => ?_)
    refine vv_icmp_gt (pc := 18) (tgt := 25) X dX2_isWindow_18 rfl ?_ ?_
    · exact vv_sub [] (by rfl) (B_X2_isWindow_25 X _)
    · refine vv_iconst (pc := 21) X dX2_isWindow_21 ?_
      refine vv_goto (pc := 22) (tgt := 26) X dX2_isWindow_22 rfl ?_
      exact vv_sub [] (by rfl) (B_X2_isWindow_26 X _ _)
theorem m_X2_isWindow {l : Launch} (hl : l.stackTraces = false) {G : va_G} (a0 : Nat) (a1 : Int) (a2 : Int) (h : HP) : ∀ r hf, f_X2_isWindow a0 a1 a2 h = some (r, hf) → Ct l yX2_isWindow (ws_ yX2_isWindow cX2_isWindow 3 (some .boolean)) 2 62 G h [.ref a0, .int (iI a1), .int (iI a2)] (jI r) hf :=
  zz_ofW hl (by decide +kernel) (lv := [(0, LR (some a0)), (1, LI a1), (2, LI a2)]) (by simp [lv_args, lvL, lvV, zz_rfc, zz_rfs, zz_ci, zz_cr, zz_cj, zz_cf, zz_cd]) (by simp [lg_sl, zz_rfc, zz_ci, zz_cr, zz_cj, zz_cf, zz_cd]) (fun _ X => A_X2_isWindow X a0 a1 a2 h)
-- X2_swaps RenamedWords$Desk.swaps(IIII)I
noncomputable def b_X2_swaps_79 (r18 : Option Nat → Int → Int → Int → Int → Int → Int → HP → Option ((Int) × HP)) (x0 : Option Nat) (x1 : Int) (x2 : Int) (x3 : Int) (x4 : Int) (x5 : Int) (x6 : Int) (h : HP) : Option ((Int) × HP) :=
  r18 x0 x1 x2 x3 x4 x5 (x6 + 1) h
theorem B_X2_swaps_79 {M : hp_M} {G : va_G} {h0 : HP} (X : hp_X M G h0 "RenamedWords$Desk" "swaps" cX2_swaps 9 (some .int) [] 9 274) (r18 : Option Nat → Int → Int → Int → Int → Int → Int → HP → Option ((Int) × HP)) (hr18 : ∀ (y0 : Option Nat) (y1 : Int) (y2 : Int) (y3 : Int) (y4 : Int) (y5 : Int) (y6 : Int) (h : HP), vv M G h0 9 (hp_End M G h0) jI h 18 [(0, LR y0), (1, LI y1), (2, LI y2), (3, LI y3), (4, LI y4), (5, LI y5), (6, LI y6)] [] (r18 y0 y1 y2 y3 y4 y5 y6 h)) (x0 : Option Nat) (x1 : Int) (x2 : Int) (x3 : Int) (x4 : Int) (x5 : Int) (x6 : Int) (h : HP) : vv M G h0 9 (hp_End M G h0) jI h 79 [(0, LR x0), (1, LI x1), (2, LI x2), (3, LI x3), (4, LI x4), (5, LI x5), (6, LI x6)] [] (b_X2_swaps_79 r18 x0 x1 x2 x3 x4 x5 x6 h) := by
  unfold b_X2_swaps_79
  refine vv_iinc (pc := 79) (lv' := [(6, LI (x6 + 1)), (0, LR x0), (1, LI x1), (2, LI x2), (3, LI x3), (4, LI x4), (5, LI x5)]) X 6 rfl (by decide) rfl dX2_swaps_79 ?_
  refine vv_goto (pc := 82) (tgt := 18) X dX2_swaps_82 rfl ?_
  exact vv_sub [1, 2, 3, 4, 5, 6, 0] (by rfl) (hr18 _ _ _ _ _ _ _ _)
noncomputable def b_X2_swaps_71 (r18 : Option Nat → Int → Int → Int → Int → Int → Int → HP → Option ((Int) × HP)) (x0 : Option Nat) (x1 : Int) (x2 : Int) (x3 : Int) (x4 : Int) (x5 : Int) (x6 : Int) (s0 : Int) (s1 : Int) (s2 : Option Nat) (h : HP) : Option ((Int) × HP) :=
  (rcv h s2 [3]).bind fun b20 =>
  hb (f_X5_puts b20 s1 s0 h) fun v18 h19 =>
  b_X2_swaps_79 r18 x0 x1 x2 x3 x4 (x5 + 1) x6 h19
theorem B_X2_swaps_71 {M : hp_M} {G : va_G} {h0 : HP} (X : hp_X M G h0 "RenamedWords$Desk" "swaps" cX2_swaps 9 (some .int) [] 9 274) (r18 : Option Nat → Int → Int → Int → Int → Int → Int → HP → Option ((Int) × HP)) (hr18 : ∀ (y0 : Option Nat) (y1 : Int) (y2 : Int) (y3 : Int) (y4 : Int) (y5 : Int) (y6 : Int) (h : HP), vv M G h0 9 (hp_End M G h0) jI h 18 [(0, LR y0), (1, LI y1), (2, LI y2), (3, LI y3), (4, LI y4), (5, LI y5), (6, LI y6)] [] (r18 y0 y1 y2 y3 y4 y5 y6 h)) (x0 : Option Nat) (x1 : Int) (x2 : Int) (x3 : Int) (x4 : Int) (x5 : Int) (x6 : Int) (s0 : Int) (s1 : Int) (s2 : Option Nat) (h : HP) : vv M G h0 9 (hp_End M G h0) jI h 71 [(0, LR x0), (1, LI x1), (2, LI x2), (3, LI x3), (4, LI x4), (5, LI x5), (6, LI x6)] [LI s0, LI s1, LR s2] (b_X2_swaps_71 r18 x0 x1 x2 x3 x4 x5 x6 s0 s1 s2 h) := by
  unfold b_X2_swaps_71
  refine vv_rcv (fun b20 t9 c9 fs9 e21 g9 k9 => ?_)
  cases List.mem_singleton.mp k9
  refine vv_callI (pc := 71) (rest := []) (by rw [e21]; rfl) (fun r8 k8 e8 => zz_callV X (m_X5_puts (hlM X) _ _ _ _ _ _ e8) g9 rfl rfl q2588 q2589 q2590 q157 q2591 nh_X5 rfl (by decide) (by decide) (Nat.le_of_ble_eq_true rfl) dX2_swaps_71) (fun v18 h19 => ?_)
  refine vv_istore (pc := 74) (lv' := [(8, LI v18), (0, LR x0), (1, LI x1), (2, LI x2), (3, LI x3), (4, LI x4), (5, LI x5), (6, LI x6)]) X (by decide) rfl dX2_swaps_74 ?_
  refine vv_iinc (pc := 76) (lv' := [(5, LI (x5 + 1)), (8, LI v18), (0, LR x0), (1, LI x1), (2, LI x2), (3, LI x3), (4, LI x4), (6, LI x6)]) X 6 rfl (by decide) rfl dX2_swaps_76 ?_
  exact vv_sub [2, 3, 4, 5, 6, 0, 7] (by rfl) (B_X2_swaps_79 X r18 hr18 _ _ _ _ _ _ _ _)
noncomputable def b_X2_swaps_53 (r18 : Option Nat → Int → Int → Int → Int → Int → Int → HP → Option ((Int) × HP)) (x0 : Option Nat) (x1 : Int) (x2 : Int) (x3 : Int) (x4 : Int) (x5 : Int) (x6 : Int) (x7 : Int) (h : HP) : Option ((Int) × HP) :=
  (rdR h x0 [1] 0).bind fun v17 =>
  iEQ x7 x3
    (b_X2_swaps_71 r18 x0 x1 x2 x3 x4 x5 x6 x4 x6 v17 h)
    (b_X2_swaps_71 r18 x0 x1 x2 x3 x4 x5 x6 x3 x6 v17 h)
theorem B_X2_swaps_53 {M : hp_M} {G : va_G} {h0 : HP} (X : hp_X M G h0 "RenamedWords$Desk" "swaps" cX2_swaps 9 (some .int) [] 9 274) (r18 : Option Nat → Int → Int → Int → Int → Int → Int → HP → Option ((Int) × HP)) (hr18 : ∀ (y0 : Option Nat) (y1 : Int) (y2 : Int) (y3 : Int) (y4 : Int) (y5 : Int) (y6 : Int) (h : HP), vv M G h0 9 (hp_End M G h0) jI h 18 [(0, LR y0), (1, LI y1), (2, LI y2), (3, LI y3), (4, LI y4), (5, LI y5), (6, LI y6)] [] (r18 y0 y1 y2 y3 y4 y5 y6 h)) (x0 : Option Nat) (x1 : Int) (x2 : Int) (x3 : Int) (x4 : Int) (x5 : Int) (x6 : Int) (x7 : Int) (h : HP) : vv M G h0 9 (hp_End M G h0) jI h 53 [(0, LR x0), (1, LI x1), (2, LI x2), (3, LI x3), (4, LI x4), (5, LI x5), (6, LI x6), (7, LI x7)] [] (b_X2_swaps_53 r18 x0 x1 x2 x3 x4 x5 x6 x7 h) := by
  unfold b_X2_swaps_53
  refine vv_aload_n (pc := 53) X (kf := 0) (i := 0) rfl 0 rfl dX2_swaps_53 ?_
  refine vv_getR (pc := 54) X (fun _ z => by cases List.mem_singleton.mp z; exact fl_X2_12_1) dX2_swaps_54 (fun v17 => ?_)
  refine vv_iload (pc := 57) X 6 rfl dX2_swaps_57 ?_
  refine vv_iload (pc := 59) X 7 rfl dX2_swaps_59 ?_
  refine vv_iload_n (pc := 61) X (kf := 3) (i := 3) rfl 3 rfl dX2_swaps_61 ?_
  refine vv_icmp_ne (pc := 62) (tgt := 70) X dX2_swaps_62 rfl ?_ ?_
  · refine vv_iload_n (pc := 70) X (kf := 3) (i := 3) rfl 3 rfl dX2_swaps_70 ?_
    exact vv_sub [0, 1, 2, 3, 4, 5, 6] (by rfl) (B_X2_swaps_71 X r18 hr18 _ _ _ _ _ _ _ _ _ _ _)
  · refine vv_iload (pc := 65) X 4 rfl dX2_swaps_65 ?_
    refine vv_goto (pc := 67) (tgt := 71) X dX2_swaps_67 rfl ?_
    exact vv_sub [0, 1, 2, 3, 4, 5, 6] (by rfl) (B_X2_swaps_71 X r18 hr18 _ _ _ _ _ _ _ _ _ _ _)
noncomputable def c_X2_swaps_18 (r18 : Option Nat → Int → Int → Int → Int → Int → Int → HP → Option ((Int) × HP)) (x0 : Option Nat) (x1 : Int) (x2 : Int) (x3 : Int) (x4 : Int) (x5 : Int) (x6 : Int) (h : HP) : Option ((Int) × HP) :=
  iLE (x1 + x2) x6
    ((rdR h x0 [1] 4).bind fun v5 =>
    (aldI h .int v5 6).bind fun v6 =>
    (astI h .int v5 6 (v6 + x5)).bind fun h7 =>
    (rcv h7 x0 [1]).bind fun b10 =>
    hb (f_X2_cleans b10 h7) fun _ h9 =>
    some (x5, h9))
    ((rdR h x0 [1] 0).bind fun v12 =>
    (rcv h v12 [3]).bind fun b15 =>
    hb (f_X5_at b15 x6 h) fun v13 h14 =>
    iEQ v13 x3
      (b_X2_swaps_53 r18 x0 x1 x2 x3 x4 x5 x6 v13 h14)
      (iEQ v13 x4
        (b_X2_swaps_53 r18 x0 x1 x2 x3 x4 x5 x6 v13 h14)
        (b_X2_swaps_79 r18 x0 x1 x2 x3 x4 x5 x6 h14)))
noncomputable def b_X2_swaps_18 : Option Nat → Int → Int → Int → Int → Int → Int → HP → Option ((Int) × HP) := fx (fun _ _ _ _ _ _ _ _ => none) (c_X2_swaps_18) FU
theorem C_X2_swaps_18 {M : hp_M} {G : va_G} {h0 : HP} (X : hp_X M G h0 "RenamedWords$Desk" "swaps" cX2_swaps 9 (some .int) [] 9 274) (r18 : Option Nat → Int → Int → Int → Int → Int → Int → HP → Option ((Int) × HP)) (hr18 : ∀ (y0 : Option Nat) (y1 : Int) (y2 : Int) (y3 : Int) (y4 : Int) (y5 : Int) (y6 : Int) (h : HP), vv M G h0 9 (hp_End M G h0) jI h 18 [(0, LR y0), (1, LI y1), (2, LI y2), (3, LI y3), (4, LI y4), (5, LI y5), (6, LI y6)] [] (r18 y0 y1 y2 y3 y4 y5 y6 h)) (x0 : Option Nat) (x1 : Int) (x2 : Int) (x3 : Int) (x4 : Int) (x5 : Int) (x6 : Int) (h : HP) : vv M G h0 9 (hp_End M G h0) jI h 18 [(0, LR x0), (1, LI x1), (2, LI x2), (3, LI x3), (4, LI x4), (5, LI x5), (6, LI x6)] [] (c_X2_swaps_18 r18 x0 x1 x2 x3 x4 x5 x6 h) := by
  unfold c_X2_swaps_18
  refine vv_iload (pc := 18) X 6 rfl dX2_swaps_18 ?_
  refine vv_iload_n (pc := 20) X (kf := 1) (i := 1) rfl 1 rfl dX2_swaps_20 ?_
  refine vv_iload_n (pc := 21) X (kf := 2) (i := 2) rfl 2 rfl dX2_swaps_21 ?_
  refine vv_iadd (pc := 22) X dX2_swaps_22 ?_
  refine vv_icmp_ge (pc := 23) (tgt := 85) X dX2_swaps_23 rfl ?_ ?_
  · refine vv_aload_n (pc := 85) X (kf := 0) (i := 0) rfl 0 rfl dX2_swaps_85 ?_
    refine vv_getR (pc := 86) X (fun _ z => by cases List.mem_singleton.mp z; exact fl_X2_31_1) dX2_swaps_86 (fun v5 => ?_)
    refine vv_bipush (pc := 89) X (by decide) dX2_swaps_89 ?_
    refine vv_dup2 (pc := 91) X rfl rfl dX2_swaps_91 ?_
    refine vv_iaload (pc := 92) X dX2_swaps_92 (fun v6 => ?_)
    refine vv_iload (pc := 93) X 5 rfl dX2_swaps_93 ?_
    refine vv_iadd (pc := 95) X dX2_swaps_95 ?_
    refine vv_iastore (pc := 96) X dX2_swaps_96 (fun h7 => ?_)
    refine vv_aload_n (pc := 97) X (kf := 0) (i := 0) rfl 0 rfl dX2_swaps_97 ?_
    refine vv_rcv (fun b10 t9 c9 fs9 e11 g9 k9 => ?_)
    cases List.mem_singleton.mp k9
    refine vv_callV (pc := 98) (rest := []) (by rw [e11]; rfl) (fun r8 k8 e8 => zz_callV X (m_X2_cleans (hlM X) _ _ _ _ e8) g9 rfl rfl q2592 q2594 qs35 q133 q2595 nh_X2 rfl (by decide) (by decide) (Nat.le_of_ble_eq_true rfl) dX2_swaps_98) (fun v8 h9 => ?_)
    refine vv_iload (pc := 101) X 5 rfl dX2_swaps_101 ?_
    exact vv_iretI X rfl rfl dX2_swaps_103
  · refine vv_aload_n (pc := 26) X (kf := 0) (i := 0) rfl 0 rfl dX2_swaps_26 ?_
    refine vv_getR (pc := 27) X (fun _ z => by cases List.mem_singleton.mp z; exact fl_X2_12_1) dX2_swaps_27 (fun v12 => ?_)
    refine vv_iload (pc := 30) X 6 rfl dX2_swaps_30 ?_
    refine vv_rcv (fun b15 t9 c9 fs9 e16 g9 k9 => ?_)
    cases List.mem_singleton.mp k9
    refine vv_callI (pc := 32) (rest := []) (by rw [e16]; rfl) (fun r8 k8 e8 => zz_callV X (m_X5_at (hlM X) _ _ _ _ _ e8) g9 rfl rfl q2799 q2635 q4111 q157 q2636 nh_X5 rfl (by decide) (by decide) (Nat.le_of_ble_eq_true rfl) dX2_swaps_32) (fun v13 h14 => ?_)
    refine vv_istore (pc := 35) (lv' := [(7, LI v13), (0, LR x0), (1, LI x1), (2, LI x2), (3, LI x3), (4, LI x4), (5, LI x5), (6, LI x6)]) X (by decide) rfl dX2_swaps_35 ?_
    refine vv_iload (pc := 37) X 0 rfl dX2_swaps_37 ?_
    refine vv_iload_n (pc := 39) X (kf := 3) (i := 3) rfl 4 rfl dX2_swaps_39 ?_
    refine vv_icmp_eq (pc := 40) (tgt := 53) X dX2_swaps_40 rfl ?_ ?_
    · exact vv_sub [1, 2, 3, 4, 5, 6, 7, 0] (by rfl) (B_X2_swaps_53 X r18 hr18 _ _ _ _ _ _ _ _ _)
    · refine vv_iload (pc := 43) X 0 rfl dX2_swaps_43 ?_
      refine vv_iload (pc := 45) X 5 rfl dX2_swaps_45 ?_
      refine vv_icmp_eq (pc := 47) (tgt := 53) X dX2_swaps_47 rfl ?_ ?_
      · exact vv_sub [1, 2, 3, 4, 5, 6, 7, 0] (by rfl) (B_X2_swaps_53 X r18 hr18 _ _ _ _ _ _ _ _ _)
      · refine vv_goto (pc := 50) (tgt := 79) X dX2_swaps_50 rfl ?_
        exact vv_sub [1, 2, 3, 4, 5, 6, 7] (by rfl) (B_X2_swaps_79 X r18 hr18 _ _ _ _ _ _ _ _)
theorem B_X2_swaps_18 {M : hp_M} {G : va_G} {h0 : HP} (X : hp_X M G h0 "RenamedWords$Desk" "swaps" cX2_swaps 9 (some .int) [] 9 274) : ∀ (x0 : Option Nat) (x1 : Int) (x2 : Int) (x3 : Int) (x4 : Int) (x5 : Int) (x6 : Int) (h : HP), vv M G h0 9 (hp_End M G h0) jI h 18 [(0, LR x0), (1, LI x1), (2, LI x2), (3, LI x3), (4, LI x4), (5, LI x5), (6, LI x6)] [] (b_X2_swaps_18 x0 x1 x2 x3 x4 x5 x6 h) := by
  unfold b_X2_swaps_18
  generalize FU = n
  induction n with
  | zero => intro x0 x1 x2 x3 x4 x5 x6 h; exact vv_none
  | succ n ih => exact C_X2_swaps_18 X _ ih
noncomputable def f_X2_swaps (a0 : Nat) (a1 : Int) (a2 : Int) (a3 : Int) (a4 : Int) (h : HP) : Option ((Int) × HP) :=
  (rcv h (some a0) [1]).bind fun b3 =>
  hb (f_X2_isWindow b3 a1 a2 h) fun v1 h2 =>
  iEQ v1 0
    (some ((-4), h2))
    (b_X2_swaps_18 (some a0) a1 a2 a3 a4 0 a1 h2)
theorem A_X2_swaps {M : hp_M} {G : va_G} {h0 : HP} (X : hp_X M G h0 "RenamedWords$Desk" "swaps" cX2_swaps 9 (some .int) [] 9 274) (a0 : Nat) (a1 : Int) (a2 : Int) (a3 : Int) (a4 : Int) (h : HP) : vv M G h0 9 (hp_End M G h0) jI h 0 [(0, LR (some a0)), (1, LI a1), (2, LI a2), (3, LI a3), (4, LI a4)] [] (f_X2_swaps a0 a1 a2 a3 a4 h) := by
  unfold f_X2_swaps
  refine vv_aload_n (pc := 0) X (kf := 0) (i := 0) rfl 0 rfl dX2_swaps_0 ?_
  refine vv_iload_n (pc := 1) X (kf := 1) (i := 1) rfl 1 rfl dX2_swaps_1 ?_
  refine vv_iload_n (pc := 2) X (kf := 2) (i := 2) rfl 2 rfl dX2_swaps_2 ?_
  refine vv_rcv (fun b3 t9 c9 fs9 e4 g9 k9 => ?_)
  cases List.mem_singleton.mp k9
  refine vv_callI (pc := 3) (rest := []) (by rw [e4]; rfl) (fun r8 k8 e8 => zz_callV X (m_X2_isWindow (hlM X) _ _ _ _ _ _ e8) g9 rfl rfl q2795 q2796 q2797 q133 q2798 nh_X2 rfl (by decide) (by decide) (Nat.le_of_ble_eq_true rfl) dX2_swaps_3) (fun v1 h2 => ?_)
  refine vv_if_ne (pc := 6) (tgt := 12) X dX2_swaps_6 rfl ?_ ?_
  · refine vv_iconst (pc := 12) X dX2_swaps_12 ?_
    refine vv_istore (pc := 13) (lv' := [(5, LI 0), (0, LR (some a0)), (1, LI a1), (2, LI a2), (3, LI a3), (4, LI a4)]) X (by decide) rfl dX2_swaps_13 ?_
    refine vv_iload_n (pc := 15) X (kf := 1) (i := 1) rfl 2 rfl dX2_swaps_15 ?_
    refine vv_istore (pc := 16) (lv' := [(6, LI a1), (5, LI 0), (0, LR (some a0)), (1, LI a1), (2, LI a2), (3, LI a3), (4, LI a4)]) X (by decide) rfl dX2_swaps_16 ?_
    exact vv_sub [2, 3, 4, 5, 6, 1, 0] (by rfl) (B_X2_swaps_18 X _ _ _ _ _ _ _ _)
  · refine vv_bipush (pc := 9) X (by decide) dX2_swaps_9 ?_
    exact vv_iretI X rfl rfl dX2_swaps_11
theorem m_X2_swaps {l : Launch} (hl : l.stackTraces = false) {G : va_G} (a0 : Nat) (a1 : Int) (a2 : Int) (a3 : Int) (a4 : Int) (h : HP) : ∀ r hf, f_X2_swaps a0 a1 a2 a3 a4 h = some (r, hf) → Ct l yX2_swaps (ws_ yX2_swaps cX2_swaps 9 (some .int)) 9 274 G h [.ref a0, .int (iI a1), .int (iI a2), .int (iI a3), .int (iI a4)] (jI r) hf :=
  zz_ofW hl (by decide +kernel) (lv := [(0, LR (some a0)), (1, LI a1), (2, LI a2), (3, LI a3), (4, LI a4)]) (by simp [lv_args, lvL, lvV, zz_rfc, zz_rfs, zz_ci, zz_cr, zz_cj, zz_cf, zz_cd]) (by simp [lg_sl, zz_rfc, zz_ci, zz_cr, zz_cj, zz_cf, zz_cd]) (fun _ X => A_X2_swaps X a0 a1 a2 a3 a4 h)
-- X23_does RenamedWords$ScriptReader$5.does()I
noncomputable def f_X23_does (a0 : Nat) (h : HP) : Option ((Int) × HP) :=
  (rdR h (some a0) [18] 4).bind fun v1 =>
  (rdR h v1 [12] 9).bind fun v2 =>
  (rdR h v2 [0] 0).bind fun v3 =>
  (rdI h (some a0) [18] 1).bind fun v4 =>
  (rdI h (some a0) [18] 2).bind fun v5 =>
  (rdR h (some a0) [18] 3).bind fun v6 =>
  (aldI h .int v6 0).bind fun v7 =>
  (rdR h (some a0) [18] 3).bind fun v8 =>
  (aldI h .int v8 1).bind fun v9 =>
  (rcv h v3 [1]).bind fun b12 =>
  hb (f_X2_swaps b12 v4 v5 v7 v9 h) fun v10 h11 =>
  some (v10, h11)
theorem A_X23_does {M : hp_M} {G : va_G} {h0 : HP} (X : hp_X M G h0 "RenamedWords$ScriptReader$5" "does" cX23_does 1 (some .int) [] 10 310) (a0 : Nat) (h : HP) : vv M G h0 1 (hp_End M G h0) jI h 0 [(0, LR (some a0))] [] (f_X23_does a0 h) := by
  unfold f_X23_does
  refine vv_aload_n (pc := 0) X (kf := 0) (i := 0) rfl 0 rfl dX23_does_0 ?_
  refine vv_getR (pc := 1) X (fun _ z => by cases List.mem_singleton.mp z; exact fl_X23_1_18) dX23_does_1 (fun v1 => ?_)
  refine vv_getR (pc := 4) X (fun _ z => by cases List.mem_singleton.mp z; exact fl_X23_18_12) dX23_does_4 (fun v2 => ?_)
  refine vv_getR (pc := 7) X (fun _ z => by cases List.mem_singleton.mp z; exact fl_X23_30_0) dX23_does_7 (fun v3 => ?_)
  refine vv_aload_n (pc := 10) X (kf := 0) (i := 0) rfl 0 rfl dX23_does_10 ?_
  refine vv_getI (pc := 11) X (fun _ z => by cases List.mem_singleton.mp z; exact fl_X23_7_18) dX23_does_11 (fun v4 => ?_)
  refine vv_aload_n (pc := 14) X (kf := 0) (i := 0) rfl 0 rfl dX23_does_14 ?_
  refine vv_getI (pc := 15) X (fun _ z => by cases List.mem_singleton.mp z; exact fl_X23_11_18) dX23_does_15 (fun v5 => ?_)
  refine vv_aload_n (pc := 18) X (kf := 0) (i := 0) rfl 0 rfl dX23_does_18 ?_
  refine vv_getR (pc := 19) X (fun _ z => by cases List.mem_singleton.mp z; exact fl_X23_14_18) dX23_does_19 (fun v6 => ?_)
  refine vv_iconst (pc := 22) X dX23_does_22 ?_
  refine vv_iaload (pc := 23) X dX23_does_23 (fun v7 => ?_)
  refine vv_aload_n (pc := 24) X (kf := 0) (i := 0) rfl 0 rfl dX23_does_24 ?_
  refine vv_getR (pc := 25) X (fun _ z => by cases List.mem_singleton.mp z; exact fl_X23_14_18) dX23_does_25 (fun v8 => ?_)
  refine vv_iconst (pc := 28) X dX23_does_28 ?_
  refine vv_iaload (pc := 29) X dX23_does_29 (fun v9 => ?_)
  refine vv_rcv (fun b12 t9 c9 fs9 e13 g9 k9 => ?_)
  cases List.mem_singleton.mp k9
  refine vv_callI (pc := 30) (rest := []) (by rw [e13]; rfl) (fun r8 k8 e8 => zz_callV X (m_X2_swaps (hlM X) _ _ _ _ _ _ _ _ e8) g9 rfl rfl q2791 q2792 q2793 q133 q2794 nh_X2 rfl (by decide) (by decide) (Nat.le_of_ble_eq_true rfl) dX23_does_30) (fun v10 h11 => ?_)
  exact vv_iretI X rfl rfl dX23_does_33
theorem m_X23_does {l : Launch} (hl : l.stackTraces = false) {G : va_G} (a0 : Nat) (h : HP) : ∀ r hf, f_X23_does a0 h = some (r, hf) → Ct l yX23_does (ws_ yX23_does cX23_does 1 (some .int)) 10 310 G h [.ref a0] (jI r) hf :=
  zz_ofW hl (by decide +kernel) (lv := [(0, LR (some a0))]) (by simp [lv_args, lvL, lvV, zz_rfc, zz_rfs, zz_ci, zz_cr, zz_cj, zz_cf, zz_cd]) (by simp [lg_sl, zz_rfc, zz_ci, zz_cr, zz_cj, zz_cf, zz_cd]) (fun _ X => A_X23_does X a0 h)
-- X2_hits RenamedWords$Desk.hits(I)I
noncomputable def c_X2_hits_4 (r4 : Option Nat → Int → Int → Int → HP → Option ((Int) × HP)) (x0 : Option Nat) (x1 : Int) (x2 : Int) (x3 : Int) (h : HP) : Option ((Int) × HP) :=
  (rdR h x0 [1] 0).bind fun v1 =>
  (rdI h v1 [3] 3).bind fun v2 =>
  iLE v2 x3
    (some (x2, h))
    ((rcv h x0 [1]).bind fun b5 =>
    hb (f_X2_isAt b5 x1 x3 h) fun v3 h4 =>
    hb (f_X1_one v3 h4) fun v7 h8 =>
    r4 x0 x1 (x2 + v7) (x3 + 1) h8)
noncomputable def b_X2_hits_4 : Option Nat → Int → Int → Int → HP → Option ((Int) × HP) := fx (fun _ _ _ _ _ => none) (c_X2_hits_4) FU
theorem C_X2_hits_4 {M : hp_M} {G : va_G} {h0 : HP} (X : hp_X M G h0 "RenamedWords$Desk" "hits" cX2_hits 4 (some .int) [] 8 244) (r4 : Option Nat → Int → Int → Int → HP → Option ((Int) × HP)) (hr4 : ∀ (y0 : Option Nat) (y1 : Int) (y2 : Int) (y3 : Int) (h : HP), vv M G h0 4 (hp_End M G h0) jI h 4 [(0, LR y0), (1, LI y1), (2, LI y2), (3, LI y3)] [] (r4 y0 y1 y2 y3 h)) (x0 : Option Nat) (x1 : Int) (x2 : Int) (x3 : Int) (h : HP) : vv M G h0 4 (hp_End M G h0) jI h 4 [(0, LR x0), (1, LI x1), (2, LI x2), (3, LI x3)] [] (c_X2_hits_4 r4 x0 x1 x2 x3 h) := by
  unfold c_X2_hits_4
  refine vv_iload_n (pc := 4) X (kf := 3) (i := 3) rfl 3 rfl dX2_hits_4 ?_
  refine vv_aload_n (pc := 5) X (kf := 0) (i := 0) rfl 0 rfl dX2_hits_5 ?_
  refine vv_getR (pc := 6) X (fun _ z => by cases List.mem_singleton.mp z; exact fl_X2_12_1) dX2_hits_6 (fun v1 => ?_)
  refine vv_getI (pc := 9) X (fun _ z => by cases List.mem_singleton.mp z; exact fl_X2_123_3) dX2_hits_9 (fun v2 => ?_)
  refine vv_icmp_ge (pc := 12) (tgt := 33) X dX2_hits_12 rfl ?_ ?_
  · refine vv_iload_n (pc := 33) X (kf := 2) (i := 2) rfl 2 rfl dX2_hits_33 ?_
    exact vv_iretI X rfl rfl dX2_hits_34
  · refine vv_iload_n (pc := 15) X (kf := 2) (i := 2) rfl 2 rfl dX2_hits_15 ?_
    refine vv_aload_n (pc := 16) X (kf := 0) (i := 0) rfl 0 rfl dX2_hits_16 ?_
    refine vv_iload_n (pc := 17) X (kf := 1) (i := 1) rfl 1 rfl dX2_hits_17 ?_
    refine vv_iload_n (pc := 18) X (kf := 3) (i := 3) rfl 3 rfl dX2_hits_18 ?_
    refine vv_rcv (fun b5 t9 c9 fs9 e6 g9 k9 => ?_)
    cases List.mem_singleton.mp k9
    refine vv_callI (pc := 19) (rest := [LI x2]) (by rw [e6]; rfl) (fun r8 k8 e8 => zz_callV X (m_X2_isAt (hlM X) _ _ _ _ _ _ e8) g9 rfl rfl q2596 q2597 q2598 q133 q2599 nh_X2 rfl (by decide) (by decide) (Nat.le_of_ble_eq_true rfl) dX2_hits_19) (fun v3 h4 => ?_)
    refine vv_callI (pc := 22) (rest := [LI x2]) (by rfl) (fun r8 k8 e8 => zz_callSN X (m_X1_one (hlM X) _ _ _ _ e8) q2812 q836 q132 q837 nh_X1 rfl (by decide) (by decide) (Nat.le_of_ble_eq_true rfl) dX2_hits_22) (fun v7 h8 => ?_)
    refine vv_iadd (pc := 25) X dX2_hits_25 ?_
    refine vv_istore_n (pc := 26) (lv' := [(2, LI (x2 + v7)), (0, LR x0), (1, LI x1), (3, LI x3)]) X (kf := 2) (i := 2) rfl (by decide) rfl dX2_hits_26 ?_
    refine vv_iinc (pc := 27) (lv' := [(3, LI (x3 + 1)), (2, LI (x2 + v7)), (0, LR x0), (1, LI x1)]) X 3 rfl (by decide) rfl dX2_hits_27 ?_
    refine vv_goto (pc := 30) (tgt := 4) X dX2_hits_30 rfl ?_
    exact vv_sub [2, 3, 1, 0] (by rfl) (hr4 _ _ _ _ _)
theorem B_X2_hits_4 {M : hp_M} {G : va_G} {h0 : HP} (X : hp_X M G h0 "RenamedWords$Desk" "hits" cX2_hits 4 (some .int) [] 8 244) : ∀ (x0 : Option Nat) (x1 : Int) (x2 : Int) (x3 : Int) (h : HP), vv M G h0 4 (hp_End M G h0) jI h 4 [(0, LR x0), (1, LI x1), (2, LI x2), (3, LI x3)] [] (b_X2_hits_4 x0 x1 x2 x3 h) := by
  unfold b_X2_hits_4
  generalize FU = n
  induction n with
  | zero => intro x0 x1 x2 x3 h; exact vv_none
  | succ n ih => exact C_X2_hits_4 X _ ih
noncomputable def f_X2_hits (a0 : Nat) (a1 : Int) (h : HP) : Option ((Int) × HP) :=
  b_X2_hits_4 (some a0) a1 0 0 h
theorem A_X2_hits {M : hp_M} {G : va_G} {h0 : HP} (X : hp_X M G h0 "RenamedWords$Desk" "hits" cX2_hits 4 (some .int) [] 8 244) (a0 : Nat) (a1 : Int) (h : HP) : vv M G h0 4 (hp_End M G h0) jI h 0 [(0, LR (some a0)), (1, LI a1)] [] (f_X2_hits a0 a1 h) := by
  unfold f_X2_hits
  refine vv_iconst (pc := 0) X dX2_hits_0 ?_
  refine vv_istore_n (pc := 1) (lv' := [(2, LI 0), (0, LR (some a0)), (1, LI a1)]) X (kf := 2) (i := 2) rfl (by decide) rfl dX2_hits_1 ?_
  refine vv_iconst (pc := 2) X dX2_hits_2 ?_
  refine vv_istore_n (pc := 3) (lv' := [(3, LI 0), (2, LI 0), (0, LR (some a0)), (1, LI a1)]) X (kf := 3) (i := 3) rfl (by decide) rfl dX2_hits_3 ?_
  exact vv_sub [2, 3, 1, 0] (by rfl) (B_X2_hits_4 X _ _ _ _ _)
theorem m_X2_hits {l : Launch} (hl : l.stackTraces = false) {G : va_G} (a0 : Nat) (a1 : Int) (h : HP) : ∀ r hf, f_X2_hits a0 a1 h = some (r, hf) → Ct l yX2_hits (ws_ yX2_hits cX2_hits 4 (some .int)) 8 244 G h [.ref a0, .int (iI a1)] (jI r) hf :=
  zz_ofW hl (by decide +kernel) (lv := [(0, LR (some a0)), (1, LI a1)]) (by simp [lv_args, lvL, lvV, zz_rfc, zz_rfs, zz_ci, zz_cr, zz_cj, zz_cf, zz_cd]) (by simp [lg_sl, zz_rfc, zz_ci, zz_cr, zz_cj, zz_cf, zz_cd]) (fun _ X => A_X2_hits X a0 a1 h)
-- X2_takes RenamedWords$Desk.takes(III)I
noncomputable def f_X2_takes (a0 : Nat) (a1 : Int) (a2 : Int) (a3 : Int) (h : HP) : Option ((Int) × HP) :=
  (rcv h (some a0) [1]).bind fun b3 =>
  hb (f_X2_isWindow b3 a2 a3 h) fun v1 h2 =>
  iEQ v1 0
    (some ((-4), h2))
    (hb (nwI h2 0 .int a3) fun v5 h6 =>
    (rdR h6 (some a0) [1] 0).bind fun v7 =>
    (rdR h6 v7 [3] 0).bind fun v8 =>
    (acpI h6 .int v8 a2 v5 0 a3).bind fun h9 =>
    (rdR h9 (some a0) [1] 2).bind fun v10 =>
    hb (nwO h9 0 11 [.inr (.inl none)] 1) fun v11 h12 =>
    (v11).bind fun b15 =>
    hb (f_X14_init b15 v5 h12) fun _ h14 =>
    (astR h14 "RenamedWords$Word" [11] v10 a1 v11).bind fun h17 =>
    (rdR h17 (some a0) [1] 4).bind fun v18 =>
    (aldI h17 .int v18 7).bind fun v19 =>
    (astI h17 .int v18 7 (v19 + 1)).bind fun h20 =>
    (rcv h20 (some a0) [1]).bind fun b23 =>
    hb (f_X2_cleans b23 h20) fun _ h22 =>
    (rcv h22 (some a0) [1]).bind fun b27 =>
    hb (f_X2_hits b27 a1 h22) fun v25 h26 =>
    some (v25, h26))
theorem A_X2_takes {M : hp_M} {G : va_G} {h0 : HP} (X : hp_X M G h0 "RenamedWords$Desk" "takes" cX2_takes 5 (some .int) [] 9 275) (a0 : Nat) (a1 : Int) (a2 : Int) (a3 : Int) (h : HP) : vv M G h0 5 (hp_End M G h0) jI h 0 [(0, LR (some a0)), (1, LI a1), (2, LI a2), (3, LI a3)] [] (f_X2_takes a0 a1 a2 a3 h) := by
  unfold f_X2_takes
  refine vv_aload_n (pc := 0) X (kf := 0) (i := 0) rfl 0 rfl dX2_takes_0 ?_
  refine vv_iload_n (pc := 1) X (kf := 2) (i := 2) rfl 2 rfl dX2_takes_1 ?_
  refine vv_iload_n (pc := 2) X (kf := 3) (i := 3) rfl 3 rfl dX2_takes_2 ?_
  refine vv_rcv (fun b3 t9 c9 fs9 e4 g9 k9 => ?_)
  cases List.mem_singleton.mp k9
  refine vv_callI (pc := 3) (rest := []) (by rw [e4]; rfl) (fun r8 k8 e8 => zz_callV X (m_X2_isWindow (hlM X) _ _ _ _ _ _ e8) g9 rfl rfl q2795 q2796 q2797 q133 q2798 nh_X2 rfl (by decide) (by decide) (Nat.le_of_ble_eq_true rfl) dX2_takes_3) (fun v1 h2 => ?_)
  refine vv_if_ne (pc := 6) (tgt := 12) X dX2_takes_6 rfl ?_ ?_
  · refine vv_iload_n (pc := 12) X (kf := 3) (i := 3) rfl 3 rfl dX2_takes_12 ?_
    refine vv_newint (pc := 13) X dX2_takes_13 (fun v5 h6 => ?_)
    refine vv_astore (pc := 15) (lv' := [(4, LR v5), (0, LR (some a0)), (1, LI a1), (2, LI a2), (3, LI a3)]) X (by decide) rfl dX2_takes_15 ?_
    refine vv_aload_n (pc := 17) X (kf := 0) (i := 0) rfl 1 rfl dX2_takes_17 ?_
    refine vv_getR (pc := 18) X (fun _ z => by cases List.mem_singleton.mp z; exact fl_X2_12_1) dX2_takes_18 (fun v7 => ?_)
    refine vv_getR (pc := 21) X (fun _ z => by cases List.mem_singleton.mp z; exact fl_X2_225_3) dX2_takes_21 (fun v8 => ?_)
    refine vv_iload_n (pc := 24) X (kf := 2) (i := 2) rfl 3 rfl dX2_takes_24 ?_
    refine vv_aload (pc := 25) X 0 rfl dX2_takes_25 ?_
    refine vv_iconst (pc := 27) X dX2_takes_27 ?_
    refine vv_iload_n (pc := 28) X (kf := 3) (i := 3) rfl 4 rfl dX2_takes_28 ?_
    refine vv_arraycopy (pc := 29) X q2142 q396 q395 q151 (by decide) (by decide) (Nat.le_of_ble_eq_true rfl) dX2_takes_29 (fun h9 => ?_)
    refine vv_aload_n (pc := 32) X (kf := 0) (i := 0) rfl 1 rfl dX2_takes_32 ?_
    refine vv_getR (pc := 33) X (fun _ z => by cases List.mem_singleton.mp z; exact fl_X2_20_1) dX2_takes_33 (fun v10 => ?_)
    refine vv_iload_n (pc := 36) X (kf := 1) (i := 1) rfl 2 rfl dX2_takes_36 ?_
    refine vv_new (pc := 37) X tyX14 rfl in_X14 tyX14_ok q654 q1562 q174 ndX14 (by decide) dX2_takes_37 (fun v11 h12 => ?_)
    refine vv_dup (pc := 40) X rfl dX2_takes_40 ?_
    refine vv_aload (pc := 41) X 0 rfl dX2_takes_41 ?_
    refine vv_bnd (fun b15 e16 => ?_)
    refine vv_callV (pc := 43) (rest := [LR v11, LI a1, LR v10]) (by rw [e16]; rfl) (fun r8 k8 e8 => zz_callI X (m_X14_init (hlM X) _ _ _ _ _ e8) q2807 q1564 q174 q1565 rfl nh_X14 rfl (by decide) (by decide) (Nat.le_of_ble_eq_true rfl) dX2_takes_43) (fun v13 h14 => ?_)
    refine vv_aastore (pc := 46) X (fun _ z => by cases List.mem_singleton.mp z; exact ca_RenamedWords_Word_11) dX2_takes_46 (fun h17 => ?_)
    refine vv_aload_n (pc := 47) X (kf := 0) (i := 0) rfl 1 rfl dX2_takes_47 ?_
    refine vv_getR (pc := 48) X (fun _ z => by cases List.mem_singleton.mp z; exact fl_X2_31_1) dX2_takes_48 (fun v18 => ?_)
    refine vv_bipush (pc := 51) X (by decide) dX2_takes_51 ?_
    refine vv_dup2 (pc := 53) X rfl rfl dX2_takes_53 ?_
    refine vv_iaload (pc := 54) X dX2_takes_54 (fun v19 => ?_)
    refine vv_iconst (pc := 55) X dX2_takes_55 ?_
    refine vv_iadd (pc := 56) X dX2_takes_56 ?_
    refine vv_iastore (pc := 57) X dX2_takes_57 (fun h20 => ?_)
    refine vv_aload_n (pc := 58) X (kf := 0) (i := 0) rfl 1 rfl dX2_takes_58 ?_
    refine vv_rcv (fun b23 t9 c9 fs9 e24 g9 k9 => ?_)
    cases List.mem_singleton.mp k9
    refine vv_callV (pc := 59) (rest := []) (by rw [e24]; rfl) (fun r8 k8 e8 => zz_callV X (m_X2_cleans (hlM X) _ _ _ _ e8) g9 rfl rfl q2592 q2594 qs35 q133 q2595 nh_X2 rfl (by decide) (by decide) (Nat.le_of_ble_eq_true rfl) dX2_takes_59) (fun v21 h22 => ?_)
    refine vv_aload_n (pc := 62) X (kf := 0) (i := 0) rfl 1 rfl dX2_takes_62 ?_
    refine vv_iload_n (pc := 63) X (kf := 1) (i := 1) rfl 2 rfl dX2_takes_63 ?_
    refine vv_rcv (fun b27 t9 c9 fs9 e28 g9 k9 => ?_)
    cases List.mem_singleton.mp k9
    refine vv_callI (pc := 64) (rest := []) (by rw [e28]; rfl) (fun r8 k8 e8 => zz_callV X (m_X2_hits (hlM X) _ _ _ _ _ e8) g9 rfl rfl q2808 q2809 q2810 q133 q2811 nh_X2 rfl (by decide) (by decide) (Nat.le_of_ble_eq_true rfl) dX2_takes_64) (fun v25 h26 => ?_)
    exact vv_iretI X rfl rfl dX2_takes_67
  · refine vv_bipush (pc := 9) X (by decide) dX2_takes_9 ?_
    exact vv_iretI X rfl rfl dX2_takes_11
theorem m_X2_takes {l : Launch} (hl : l.stackTraces = false) {G : va_G} (a0 : Nat) (a1 : Int) (a2 : Int) (a3 : Int) (h : HP) : ∀ r hf, f_X2_takes a0 a1 a2 a3 h = some (r, hf) → Ct l yX2_takes (ws_ yX2_takes cX2_takes 5 (some .int)) 9 275 G h [.ref a0, .int (iI a1), .int (iI a2), .int (iI a3)] (jI r) hf :=
  zz_ofW hl (by decide +kernel) (lv := [(0, LR (some a0)), (1, LI a1), (2, LI a2), (3, LI a3)]) (by simp [lv_args, lvL, lvV, zz_rfc, zz_rfs, zz_ci, zz_cr, zz_cj, zz_cf, zz_cd]) (by simp [lg_sl, zz_rfc, zz_ci, zz_cr, zz_cj, zz_cf, zz_cd]) (fun _ X => A_X2_takes X a0 a1 a2 a3 h)
