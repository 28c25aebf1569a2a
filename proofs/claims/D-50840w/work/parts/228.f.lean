/-! STAGE 1c: functions and contracts (printed by gen/mkfuncs.py). -/
set_option maxRecDepth 100000
set_option linter.unusedVariables false
-- X1_unlike RenamedWords.unlike()I
noncomputable def c_X1_unlike_4 (r4 : Option Nat → Int → Int → HP → Option ((Int) × HP)) (x0 : Option Nat) (x1 : Int) (x2 : Int) (h : HP) : Option ((Int) × HP) :=
  (rdR h x0 [0] 0).bind fun v1 =>
  (rdR h v1 [1] 0).bind fun v2 =>
  (rdI h v2 [3] 3).bind fun v3 =>
  iLE v3 x2
    (hb (f_J19_bitCount x1 h) fun v4 h5 =>
    some (v4, h5))
    ((rdR h x0 [0] 0).bind fun v6 =>
    (rdR h v6 [1] 0).bind fun v7 =>
    (rcv h v7 [3]).bind fun b10 =>
    hb (f_X5_at b10 x2 h) fun v8 h9 =>
    r4 x0 (iOr x1 (iShl 1 v8)) (x2 + 1) h9)
noncomputable def b_X1_unlike_4 : Option Nat → Int → Int → HP → Option ((Int) × HP) := fx (fun _ _ _ _ => none) (c_X1_unlike_4) FU
theorem C_X1_unlike_4 {M : hp_M} {G : va_G} {h0 : HP} (X : hp_X M G h0 "RenamedWords" "unlike" cX1_unlike 3 (some .int) [] 1 29) (r4 : Option Nat → Int → Int → HP → Option ((Int) × HP)) (hr4 : ∀ (y0 : Option Nat) (y1 : Int) (y2 : Int) (h : HP), vv M G h0 3 (hp_End M G h0) jI h 4 [(0, LR y0), (1, LI y1), (2, LI y2)] [] (r4 y0 y1 y2 h)) (x0 : Option Nat) (x1 : Int) (x2 : Int) (h : HP) : vv M G h0 3 (hp_End M G h0) jI h 4 [(0, LR x0), (1, LI x1), (2, LI x2)] [] (c_X1_unlike_4 r4 x0 x1 x2 h) := by
  unfold c_X1_unlike_4
  refine vv_iload_n (pc := 4) X (kf := 2) (i := 2) rfl 2 rfl dX1_unlike_4 ?_
  refine vv_aload_n (pc := 5) X (kf := 0) (i := 0) rfl 0 rfl dX1_unlike_5 ?_
  refine vv_getR (pc := 6) X (fun _ z => by cases List.mem_singleton.mp z; exact fl_X1_35_0) dX1_unlike_6 (fun v1 => ?_)
  refine vv_getR (pc := 9) X (fun _ z => by cases List.mem_singleton.mp z; exact fl_X1_79_1) dX1_unlike_9 (fun v2 => ?_)
  refine vv_getI (pc := 12) X (fun _ z => by cases List.mem_singleton.mp z; exact fl_X1_83_3) dX1_unlike_12 (fun v3 => ?_)
  refine vv_icmp_ge (pc := 15) (tgt := 40) X dX1_unlike_15 rfl ?_ ?_
  · refine vv_iload_n (pc := 40) X (kf := 1) (i := 1) rfl 1 rfl dX1_unlike_40 ?_
    refine vv_callI (pc := 41) (rest := []) (by rfl) (fun r8 k8 e8 => zz_callS X (m_J19_bitCount (hlM X) _ _ _ _ e8) q3023 q3024 q155 q3025 nh_J19 rfl (by decide) (by decide) (Nat.le_of_ble_eq_true rfl) dX1_unlike_41) (fun v4 h5 => ?_)
    exact vv_iretI X rfl rfl dX1_unlike_44
  · refine vv_iload_n (pc := 18) X (kf := 1) (i := 1) rfl 1 rfl dX1_unlike_18 ?_
    refine vv_iconst (pc := 19) X dX1_unlike_19 ?_
    refine vv_aload_n (pc := 20) X (kf := 0) (i := 0) rfl 0 rfl dX1_unlike_20 ?_
    refine vv_getR (pc := 21) X (fun _ z => by cases List.mem_singleton.mp z; exact fl_X1_35_0) dX1_unlike_21 (fun v6 => ?_)
    refine vv_getR (pc := 24) X (fun _ z => by cases List.mem_singleton.mp z; exact fl_X1_79_1) dX1_unlike_24 (fun v7 => ?_)
    refine vv_iload_n (pc := 27) X (kf := 2) (i := 2) rfl 2 rfl dX1_unlike_27 ?_
    refine vv_rcv (fun b10 t9 c9 fs9 e11 g9 k9 => ?_)
    cases List.mem_singleton.mp k9
    refine vv_callI (pc := 28) (rest := [LI 1, LI x1]) (by rw [e11]; rfl) (fun r8 k8 e8 => zz_callV X (m_X5_at (hlM X) _ _ _ _ _ e8) g9 rfl rfl q2963 q2635 q4111 q157 q2636 nh_X5 rfl (by decide) (by decide) (Nat.le_of_ble_eq_true rfl) dX1_unlike_28) (fun v8 h9 => ?_)
    refine vv_ishl (pc := 31) X dX1_unlike_31 ?_
    refine vv_ior (pc := 32) X dX1_unlike_32 ?_
    refine vv_istore_n (pc := 33) (lv' := [(1, LI (iOr x1 (iShl 1 v8))), (0, LR x0), (2, LI x2)]) X (kf := 1) (i := 1) rfl (by decide) rfl dX1_unlike_33 ?_
    refine vv_iinc (pc := 34) (lv' := [(2, LI (x2 + 1)), (1, LI (iOr x1 (iShl 1 v8))), (0, LR x0)]) X 2 rfl (by decide) rfl dX1_unlike_34 ?_
    refine vv_goto (pc := 37) (tgt := 4) X dX1_unlike_37 rfl ?_
    exact vv_sub [2, 1, 0] (by rfl) (hr4 _ _ _ _)
theorem B_X1_unlike_4 {M : hp_M} {G : va_G} {h0 : HP} (X : hp_X M G h0 "RenamedWords" "unlike" cX1_unlike 3 (some .int) [] 1 29) : ∀ (x0 : Option Nat) (x1 : Int) (x2 : Int) (h : HP), vv M G h0 3 (hp_End M G h0) jI h 4 [(0, LR x0), (1, LI x1), (2, LI x2)] [] (b_X1_unlike_4 x0 x1 x2 h) := by
  unfold b_X1_unlike_4
  generalize FU = n
  induction n with
  | zero => intro x0 x1 x2 h; exact vv_none
  | succ n ih => exact C_X1_unlike_4 X _ ih
noncomputable def f_X1_unlike (a0 : Nat) (h : HP) : Option ((Int) × HP) :=
  b_X1_unlike_4 (some a0) 0 0 h
theorem A_X1_unlike {M : hp_M} {G : va_G} {h0 : HP} (X : hp_X M G h0 "RenamedWords" "unlike" cX1_unlike 3 (some .int) [] 1 29) (a0 : Nat) (h : HP) : vv M G h0 3 (hp_End M G h0) jI h 0 [(0, LR (some a0))] [] (f_X1_unlike a0 h) := by
  unfold f_X1_unlike
  refine vv_iconst (pc := 0) X dX1_unlike_0 ?_
  refine vv_istore_n (pc := 1) (lv' := [(1, LI 0), (0, LR (some a0))]) X (kf := 1) (i := 1) rfl (by decide) rfl dX1_unlike_1 ?_
  refine vv_iconst (pc := 2) X dX1_unlike_2 ?_
  refine vv_istore_n (pc := 3) (lv' := [(2, LI 0), (1, LI 0), (0, LR (some a0))]) X (kf := 2) (i := 2) rfl (by decide) rfl dX1_unlike_3 ?_
  exact vv_sub [2, 1, 0] (by rfl) (B_X1_unlike_4 X _ _ _ _)
theorem m_X1_unlike {l : Launch} (hl : l.stackTraces = false) {G : va_G} (a0 : Nat) (h : HP) : ∀ r hf, f_X1_unlike a0 h = some (r, hf) → Ct l yX1_unlike (ws_ yX1_unlike cX1_unlike 3 (some .int)) 1 29 G h [.ref a0] (jI r) hf :=
  zz_ofW hl (by decide +kernel) (lv := [(0, LR (some a0))]) (by simp [lv_args, lvL, lvV, zz_rfc, zz_rfs, zz_ci, zz_cr, zz_cj, zz_cf, zz_cd]) (by simp [lg_sl, zz_rfc, zz_ci, zz_cr, zz_cj, zz_cf, zz_cd]) (fun _ X => A_X1_unlike X a0 h)
-- X1_renamable RenamedWords.renamable()I
noncomputable def b_X1_renamable_45 (r4 : Option Nat → Int → Int → HP → Option ((Int) × HP)) (x0 : Option Nat) (x2 : Int) (s0 : Int) (s1 : Int) (h : HP) : Option ((Int) × HP) :=
  hb (f_X1_one s0 h) fun v12 h13 =>
  r4 x0 (s1 + v12) (x2 + 1) h13
theorem B_X1_renamable_45 {M : hp_M} {G : va_G} {h0 : HP} (X : hp_X M G h0 "RenamedWords" "renamable" cX1_renamable 3 (some .int) [] 3 88) (r4 : Option Nat → Int → Int → HP → Option ((Int) × HP)) (hr4 : ∀ (y0 : Option Nat) (y1 : Int) (y2 : Int) (h : HP), vv M G h0 3 (hp_End M G h0) jI h 4 [(0, LR y0), (1, LI y1), (2, LI y2)] [] (r4 y0 y1 y2 h)) (x0 : Option Nat) (x2 : Int) (s0 : Int) (s1 : Int) (h : HP) : vv M G h0 3 (hp_End M G h0) jI h 45 [(0, LR x0), (2, LI x2)] [LI s0, LI s1] (b_X1_renamable_45 r4 x0 x2 s0 s1 h) := by
  unfold b_X1_renamable_45
  refine vv_callI (pc := 45) (rest := [LI s1]) (by rfl) (fun r8 k8 e8 => zz_callS X (m_X1_one (hlM X) _ _ _ _ e8) q835 q836 q132 q837 nh_X1 rfl (by decide) (by decide) (Nat.le_of_ble_eq_true rfl) dX1_renamable_45) (fun v12 h13 => ?_)
  refine vv_iadd (pc := 48) X dX1_renamable_48 ?_
  refine vv_istore_n (pc := 49) (lv' := [(1, LI (s1 + v12)), (0, LR x0), (2, LI x2)]) X (kf := 1) (i := 1) rfl (by decide) rfl dX1_renamable_49 ?_
  refine vv_iinc (pc := 50) (lv' := [(2, LI (x2 + 1)), (1, LI (s1 + v12)), (0, LR x0)]) X 2 rfl (by decide) rfl dX1_renamable_50 ?_
  refine vv_goto (pc := 53) (tgt := 4) X dX1_renamable_53 rfl ?_
  exact vv_sub [2, 1, 0] (by rfl) (hr4 _ _ _ _)
noncomputable def c_X1_renamable_4 (r4 : Option Nat → Int → Int → HP → Option ((Int) × HP)) (x0 : Option Nat) (x1 : Int) (x2 : Int) (h : HP) : Option ((Int) × HP) :=
  (rdR h x0 [0] 0).bind fun v1 =>
  (rdR h v1 [1] 0).bind fun v2 =>
  (rdI h v2 [3] 3).bind fun v3 =>
  iLE v3 x2
    (some (x1, h))
    ((rdR h x0 [0] 0).bind fun v4 =>
    (rdR h v4 [1] 0).bind fun v5 =>
    (rdR h x0 [0] 0).bind fun v6 =>
    (rdI h v6 [1] 7).bind fun v7 =>
    (rcv h v5 [3]).bind fun b10 =>
    hb (f_X4_isFirm_2 b10 x2 v7 h) fun v8 h9 =>
    iEQ v8 0
      (b_X1_renamable_45 r4 x0 x2 1 x1 h9)
      (b_X1_renamable_45 r4 x0 x2 0 x1 h9))
noncomputable def b_X1_renamable_4 : Option Nat → Int → Int → HP → Option ((Int) × HP) := fx (fun _ _ _ _ => none) (c_X1_renamable_4) FU
theorem C_X1_renamable_4 {M : hp_M} {G : va_G} {h0 : HP} (X : hp_X M G h0 "RenamedWords" "renamable" cX1_renamable 3 (some .int) [] 3 88) (r4 : Option Nat → Int → Int → HP → Option ((Int) × HP)) (hr4 : ∀ (y0 : Option Nat) (y1 : Int) (y2 : Int) (h : HP), vv M G h0 3 (hp_End M G h0) jI h 4 [(0, LR y0), (1, LI y1), (2, LI y2)] [] (r4 y0 y1 y2 h)) (x0 : Option Nat) (x1 : Int) (x2 : Int) (h : HP) : vv M G h0 3 (hp_End M G h0) jI h 4 [(0, LR x0), (1, LI x1), (2, LI x2)] [] (c_X1_renamable_4 r4 x0 x1 x2 h) := by
  unfold c_X1_renamable_4
  refine vv_iload_n (pc := 4) X (kf := 2) (i := 2) rfl 2 rfl dX1_renamable_4 ?_
  refine vv_aload_n (pc := 5) X (kf := 0) (i := 0) rfl 0 rfl dX1_renamable_5 ?_
  refine vv_getR (pc := 6) X (fun _ z => by cases List.mem_singleton.mp z; exact fl_X1_35_0) dX1_renamable_6 (fun v1 => ?_)
  refine vv_getR (pc := 9) X (fun _ z => by cases List.mem_singleton.mp z; exact fl_X1_79_1) dX1_renamable_9 (fun v2 => ?_)
  refine vv_getI (pc := 12) X (fun _ z => by cases List.mem_singleton.mp z; exact fl_X1_83_3) dX1_renamable_12 (fun v3 => ?_)
  refine vv_icmp_ge (pc := 15) (tgt := 56) X dX1_renamable_15 rfl ?_ ?_
  · refine vv_iload_n (pc := 56) X (kf := 1) (i := 1) rfl 1 rfl dX1_renamable_56 ?_
    exact vv_iretI X rfl rfl dX1_renamable_57
  · refine vv_iload_n (pc := 18) X (kf := 1) (i := 1) rfl 1 rfl dX1_renamable_18 ?_
    refine vv_aload_n (pc := 19) X (kf := 0) (i := 0) rfl 0 rfl dX1_renamable_19 ?_
    refine vv_getR (pc := 20) X (fun _ z => by cases List.mem_singleton.mp z; exact fl_X1_35_0) dX1_renamable_20 (fun v4 => ?_)
    refine vv_getR (pc := 23) X (fun _ z => by cases List.mem_singleton.mp z; exact fl_X1_79_1) dX1_renamable_23 (fun v5 => ?_)
    refine vv_iload_n (pc := 26) X (kf := 2) (i := 2) rfl 2 rfl dX1_renamable_26 ?_
    refine vv_aload_n (pc := 27) X (kf := 0) (i := 0) rfl 0 rfl dX1_renamable_27 ?_
    refine vv_getR (pc := 28) X (fun _ z => by cases List.mem_singleton.mp z; exact fl_X1_35_0) dX1_renamable_28 (fun v6 => ?_)
    refine vv_getI (pc := 31) X (fun _ z => by cases List.mem_singleton.mp z; exact fl_X1_189_1) dX1_renamable_31 (fun v7 => ?_)
    refine vv_rcv (fun b10 t9 c9 fs9 e11 g9 k9 => ?_)
    cases List.mem_singleton.mp k9
    refine vv_callI (pc := 34) (rest := [LI x1]) (by rw [e11]; rfl) (fun r8 k8 e8 => zz_callU X (m_X4_isFirm_2 (hlM X) _ _ _ _ _ _ e8) g9 rfl q2960 q2961 (va_Decl.of (X.1.2.2.2.2 _ q2625) (X.1.2.2.2.2 _ q2630)) (by decide) q2625 q2962 q156 q2630 rfl (by decide) (by decide) (Nat.le_of_ble_eq_true rfl) dX1_renamable_34) (fun v8 h9 => ?_)
    refine vv_if_ne (pc := 37) (tgt := 44) X dX1_renamable_37 rfl ?_ ?_
    · refine vv_iconst (pc := 44) X dX1_renamable_44 ?_
      exact vv_sub [0, 2] (by rfl) (B_X1_renamable_45 X r4 hr4 _ _ _ _ _)
    · refine vv_iconst (pc := 40) X dX1_renamable_40 ?_
      refine vv_goto (pc := 41) (tgt := 45) X dX1_renamable_41 rfl ?_
      exact vv_sub [0, 2] (by rfl) (B_X1_renamable_45 X r4 hr4 _ _ _ _ _)
theorem B_X1_renamable_4 {M : hp_M} {G : va_G} {h0 : HP} (X : hp_X M G h0 "RenamedWords" "renamable" cX1_renamable 3 (some .int) [] 3 88) : ∀ (x0 : Option Nat) (x1 : Int) (x2 : Int) (h : HP), vv M G h0 3 (hp_End M G h0) jI h 4 [(0, LR x0), (1, LI x1), (2, LI x2)] [] (b_X1_renamable_4 x0 x1 x2 h) := by
  unfold b_X1_renamable_4
  generalize FU = n
  induction n with
  | zero => intro x0 x1 x2 h; exact vv_none
  | succ n ih => exact C_X1_renamable_4 X _ ih
noncomputable def f_X1_renamable (a0 : Nat) (h : HP) : Option ((Int) × HP) :=
  b_X1_renamable_4 (some a0) 0 0 h
theorem A_X1_renamable {M : hp_M} {G : va_G} {h0 : HP} (X : hp_X M G h0 "RenamedWords" "renamable" cX1_renamable 3 (some .int) [] 3 88) (a0 : Nat) (h : HP) : vv M G h0 3 (hp_End M G h0) jI h 0 [(0, LR (some a0))] [] (f_X1_renamable a0 h) := by
  unfold f_X1_renamable
  refine vv_iconst (pc := 0) X dX1_renamable_0 ?_
  refine vv_istore_n (pc := 1) (lv' := [(1, LI 0), (0, LR (some a0))]) X (kf := 1) (i := 1) rfl (by decide) rfl dX1_renamable_1 ?_
  refine vv_iconst (pc := 2) X dX1_renamable_2 ?_
  refine vv_istore_n (pc := 3) (lv' := [(2, LI 0), (1, LI 0), (0, LR (some a0))]) X (kf := 2) (i := 2) rfl (by decide) rfl dX1_renamable_3 ?_
  exact vv_sub [2, 1, 0] (by rfl) (B_X1_renamable_4 X _ _ _ _)
theorem m_X1_renamable {l : Launch} (hl : l.stackTraces = false) {G : va_G} (a0 : Nat) (h : HP) : ∀ r hf, f_X1_renamable a0 h = some (r, hf) → Ct l yX1_renamable (ws_ yX1_renamable cX1_renamable 3 (some .int)) 3 88 G h [.ref a0] (jI r) hf :=
  zz_ofW hl (by decide +kernel) (lv := [(0, LR (some a0))]) (by simp [lv_args, lvL, lvV, zz_rfc, zz_rfs, zz_ci, zz_cr, zz_cj, zz_cf, zz_cd]) (by simp [lg_sl, zz_rfc, zz_ci, zz_cr, zz_cj, zz_cf, zz_cd]) (fun _ X => A_X1_renamable X a0 h)
-- X1_size RenamedWords.size(I)I
noncomputable def b_X1_size_122 (s0 : Int) (h : HP) : Option ((Nat ⊕ Int) × HP) :=
  some (.inr s0, h)
theorem B_X1_size_122 {M : hp_M} {G : va_G} {h0 : HP} (X : hp_X M G h0 "RenamedWords" "size" cX1_size 2 (some .int) [] 6 118) (s0 : Int) (h : HP) : vv M G h0 2 (hp_End M G h0) xI h 122 [] [LI s0] (b_X1_size_122 s0 h) := by
  unfold b_X1_size_122
  exact vv_iretI X rfl rfl dX1_size_122
noncomputable def f_X1_size (a0 : Nat) (a1 : Int) (h : HP) : Option ((Nat ⊕ Int) × HP) :=
  iIN a1
    (if a1 = 0 then
      (rdR h (some a0) [0] 0).bind fun v1 =>
      (rdR h v1 [1] 0).bind fun v2 =>
      (rdI h v2 [3] 3).bind fun v3 =>
      b_X1_size_122 v3 h
    else
    if a1 = 1 then
      (rdR h (some a0) [0] 0).bind fun v4 =>
      (rcv h v4 [1]).bind fun b7 =>
      hb (f_X2_patternMany b7 h) fun v5 h6 =>
      b_X1_size_122 v5 h6
    else
    if a1 = 2 then
      (rdR h (some a0) [0] 0).bind fun v9 =>
      (rdI h v9 [1] 7).bind fun v10 =>
      b_X1_size_122 v10 h
    else
    if a1 = 3 then
      (rdR h (some a0) [0] 0).bind fun v11 =>
      (rdR h v11 [1] 3).bind fun v12 =>
      (rdI h v12 [4] 2).bind fun v13 =>
      b_X1_size_122 v13 h
    else
    if a1 = 4 then
      (rcv h (some a0) [0]).bind fun b16 =>
      hb (f_X1_unlike b16 h) fun v14 h15 =>
      b_X1_size_122 v14 h15
    else
    if a1 = 5 then
      (rcv h (some a0) [0]).bind fun b20 =>
      hb (f_X1_renamable b20 h) fun v18 h19 =>
      b_X1_size_122 v18 h19
    else
    if a1 = 6 then
      (rdR h (some a0) [0] 1).bind fun v22 =>
      (rcv h v22 [28]).bind fun b25 =>
      hb (f_J21_size b25 h) fun v23 h24 =>
      b_X1_size_122 v23 h24
    else
    hb (nwX h 0 36) fun v27 h28 =>
    (v27).bind fun q29 =>
    some (.inl q29, h28))
theorem A_X1_size {M : hp_M} {G : va_G} {h0 : HP} (X : hp_X M G h0 "RenamedWords" "size" cX1_size 2 (some .int) [] 6 118) (a0 : Nat) (a1 : Int) (h : HP) : vv M G h0 2 (hp_End M G h0) xI h 0 [(0, LR (some a0)), (1, LI a1)] [] (f_X1_size a0 a1 h) := by
  unfold f_X1_size
  refine vv_iload_n (pc := 0) X (kf := 1) (i := 1) rfl 1 rfl dX1_size_0 ?_
  refine vv_iIN (fun hr => ?_)
  refine vv_if (fun e0 => ?_) (fun e0 => ?_)
  · refine vv_tsw (pc := 1) (off := 43) (tgt := 44) X dX1_size_1 hr (by omega) (by omega) (by rw [e0]; rfl) rfl ?_
    refine vv_aload_n (pc := 44) X (kf := 0) (i := 0) rfl 0 rfl dX1_size_44 ?_
    refine vv_getR (pc := 45) X (fun _ z => by cases List.mem_singleton.mp z; exact fl_X1_35_0) dX1_size_45 (fun v1 => ?_)
    refine vv_getR (pc := 48) X (fun _ z => by cases List.mem_singleton.mp z; exact fl_X1_79_1) dX1_size_48 (fun v2 => ?_)
    refine vv_getI (pc := 51) X (fun _ z => by cases List.mem_singleton.mp z; exact fl_X1_83_3) dX1_size_51 (fun v3 => ?_)
    refine vv_goto (pc := 54) (tgt := 122) X dX1_size_54 rfl ?_
    exact vv_sub [] (by rfl) (B_X1_size_122 X _ _)
  refine vv_if (fun e1 => ?_) (fun e1 => ?_)
  · refine vv_tsw (pc := 1) (off := 56) (tgt := 57) X dX1_size_1 hr (by omega) (by omega) (by rw [e1]; rfl) rfl ?_
    refine vv_aload_n (pc := 57) X (kf := 0) (i := 0) rfl 0 rfl dX1_size_57 ?_
    refine vv_getR (pc := 58) X (fun _ z => by cases List.mem_singleton.mp z; exact fl_X1_35_0) dX1_size_58 (fun v4 => ?_)
    refine vv_rcv (fun b7 t9 c9 fs9 e8 g9 k9 => ?_)
    cases List.mem_singleton.mp k9
    refine vv_callI (pc := 61) (rest := []) (by rw [e8]; rfl) (fun r8 k8 e8 => zz_callV X (m_X2_patternMany (hlM X) _ _ _ _ e8) g9 rfl rfl q3018 q1114 q1115 q133 q1116 nh_X2 rfl (by decide) (by decide) (Nat.le_of_ble_eq_true rfl) dX1_size_61) (fun v5 h6 => ?_)
    refine vv_goto (pc := 64) (tgt := 122) X dX1_size_64 rfl ?_
    exact vv_sub [] (by rfl) (B_X1_size_122 X _ _)
  refine vv_if (fun e2 => ?_) (fun e2 => ?_)
  · refine vv_tsw (pc := 1) (off := 66) (tgt := 67) X dX1_size_1 hr (by omega) (by omega) (by rw [e2]; rfl) rfl ?_
    refine vv_aload_n (pc := 67) X (kf := 0) (i := 0) rfl 0 rfl dX1_size_67 ?_
    refine vv_getR (pc := 68) X (fun _ z => by cases List.mem_singleton.mp z; exact fl_X1_35_0) dX1_size_68 (fun v9 => ?_)
    refine vv_getI (pc := 71) X (fun _ z => by cases List.mem_singleton.mp z; exact fl_X1_189_1) dX1_size_71 (fun v10 => ?_)
    refine vv_goto (pc := 74) (tgt := 122) X dX1_size_74 rfl ?_
    exact vv_sub [] (by rfl) (B_X1_size_122 X _ _)
  refine vv_if (fun e3 => ?_) (fun e3 => ?_)
  · refine vv_tsw (pc := 1) (off := 76) (tgt := 77) X dX1_size_1 hr (by omega) (by omega) (by rw [e3]; rfl) rfl ?_
    refine vv_aload_n (pc := 77) X (kf := 0) (i := 0) rfl 0 rfl dX1_size_77 ?_
    refine vv_getR (pc := 78) X (fun _ z => by cases List.mem_singleton.mp z; exact fl_X1_35_0) dX1_size_78 (fun v11 => ?_)
    refine vv_getR (pc := 81) X (fun _ z => by cases List.mem_singleton.mp z; exact fl_X1_196_1) dX1_size_81 (fun v12 => ?_)
    refine vv_getI (pc := 84) X (fun _ z => by cases List.mem_singleton.mp z; exact fl_X1_200_4) dX1_size_84 (fun v13 => ?_)
    refine vv_goto (pc := 87) (tgt := 122) X dX1_size_87 rfl ?_
    exact vv_sub [] (by rfl) (B_X1_size_122 X _ _)
  refine vv_if (fun e4 => ?_) (fun e4 => ?_)
  · refine vv_tsw (pc := 1) (off := 89) (tgt := 90) X dX1_size_1 hr (by omega) (by omega) (by rw [e4]; rfl) rfl ?_
    refine vv_aload_n (pc := 90) X (kf := 0) (i := 0) rfl 0 rfl dX1_size_90 ?_
    refine vv_rcv (fun b16 t9 c9 fs9 e17 g9 k9 => ?_)
    cases List.mem_singleton.mp k9
    refine vv_callI (pc := 91) (rest := []) (by rw [e17]; rfl) (fun r8 k8 e8 => zz_callV X (m_X1_unlike (hlM X) _ _ _ _ e8) g9 rfl rfl q3019 q3021 qs44 q132 q3022 nh_X1 rfl (by decide) (by decide) (Nat.le_of_ble_eq_true rfl) dX1_size_91) (fun v14 h15 => ?_)
    refine vv_goto (pc := 94) (tgt := 122) X dX1_size_94 rfl ?_
    exact vv_sub [] (by rfl) (B_X1_size_122 X _ _)
  refine vv_if (fun e5 => ?_) (fun e5 => ?_)
  · refine vv_tsw (pc := 1) (off := 96) (tgt := 97) X dX1_size_1 hr (by omega) (by omega) (by rw [e5]; rfl) rfl ?_
    refine vv_aload_n (pc := 97) X (kf := 0) (i := 0) rfl 0 rfl dX1_size_97 ?_
    refine vv_rcv (fun b20 t9 c9 fs9 e21 g9 k9 => ?_)
    cases List.mem_singleton.mp k9
    refine vv_callI (pc := 98) (rest := []) (by rw [e21]; rfl) (fun r8 k8 e8 => zz_callV X (m_X1_renamable (hlM X) _ _ _ _ e8) g9 rfl rfl q3029 q3031 qs45 q132 q3032 nh_X1 rfl (by decide) (by decide) (Nat.le_of_ble_eq_true rfl) dX1_size_98) (fun v18 h19 => ?_)
    refine vv_goto (pc := 101) (tgt := 122) X dX1_size_101 rfl ?_
    exact vv_sub [] (by rfl) (B_X1_size_122 X _ _)
  refine vv_if (fun e6 => ?_) (fun e6 => ?_)
  · refine vv_tsw (pc := 1) (off := 103) (tgt := 104) X dX1_size_1 hr (by omega) (by omega) (by rw [e6]; rfl) rfl ?_
    refine vv_aload_n (pc := 104) X (kf := 0) (i := 0) rfl 0 rfl dX1_size_104 ?_
    refine vv_getR (pc := 105) X (fun _ z => by cases List.mem_singleton.mp z; exact fl_X1_42_0) dX1_size_105 (fun v22 => ?_)
    refine vv_rcv (fun b25 t9 c9 fs9 e26 g9 k9 => ?_)
    cases List.mem_singleton.mp k9
    refine vv_callI (pc := 108) (rest := []) (by rw [e26]; rfl) (fun r8 k8 e8 => zz_callV X (m_J21_size (hlM X) _ _ _ _ e8) g9 rfl rfl q2431 q1130 q4109 q162 q1132 nh_J21 rfl (by decide) (by decide) (Nat.le_of_ble_eq_true rfl) dX1_size_108) (fun v23 h24 => ?_)
    refine vv_goto (pc := 111) (tgt := 122) X dX1_size_111 rfl ?_
    exact vv_sub [] (by rfl) (B_X1_size_122 X _ _)
  refine vv_tswD (pc := 1) (tgt := 114) X dX1_size_1 hr (by omega) rfl ?_
  refine vv_newX (pc := 114) (cls := "java/lang/IllegalArgumentException") (names := ["java/lang/RuntimeException", "java/lang/Exception"]) X (by decide +kernel) (by decide +kernel) q3033 q143 nx_X1_size_114 (by decide +kernel) dX1_size_114 dX1_size_117 dX1_size_118 rfl (by decide) (by decide) (Nat.le_of_ble_eq_true rfl) (fun v27 h28 => ?_)
  refine vv_athrow (pc := 121) X dX1_size_121 (fun q29 _ => ?_)
  exact vvx_out X (by decide) rfl
theorem m_X1_size {l : Launch} (hl : l.stackTraces = false) {G : va_G} (a0 : Nat) (a1 : Int) (h : HP) : ∀ r hf, f_X1_size a0 a1 h = some (r, hf) → Ct l yX1_size (ws_ yX1_size cX1_size 2 (some .int)) 6 118 G h [.ref a0, .int (iI a1)] (xI r) hf :=
  zz_ofW hl (by decide +kernel) (lv := [(0, LR (some a0)), (1, LI a1)]) (by simp [lv_args, lvL, lvV, zz_rfc, zz_rfs, zz_ci, zz_cr, zz_cj, zz_cf, zz_cd]) (by simp [lg_sl, zz_rfc, zz_ci, zz_cr, zz_cj, zz_cf, zz_cd]) (fun _ X => A_X1_size X a0 a1 h)
-- X0_size RenamedWordsLaw.size(LRenamedWords;I[J)I
noncomputable def b_X0_size_12 (s0 : Option Nat) (h : HP) : Option ((Int) × HP) :=
  some (1, h)
theorem B_X0_size_12 {M : hp_M} {G : va_G} {h0 : HP} (X : hp_X M G h0 "RenamedWordsLaw" "size" cX0_size 4 (some .int) (tableOf [(0, 9, 12, 13)]) 7 147) (s0 : Option Nat) (h : HP) : vv M G h0 4 (hp_End M G h0) jI h 12 [] [LR s0] (b_X0_size_12 s0 h) := by
  unfold b_X0_size_12
  refine vv_astore_n (pc := 12) (lv' := [(3, LR s0)]) X (kf := 3) (i := 3) rfl (by decide) rfl dX0_size_12 ?_
  refine vv_iconst (pc := 13) X dX0_size_13 ?_
  exact vv_iretI X rfl rfl dX0_size_14
noncomputable def f_X0_size (a1 : Option Nat) (a2 : Int) (a3 : Option Nat) (h : HP) : Option ((Int) × HP) :=
  (rcv h a1 [0]).bind fun b3 =>
  hbx (f_X1_size b3 a2 h) (fun q5 h6 =>
      (clsOf h6 q5).bind fun c7 =>
      if c7 = 36 then
        b_X0_size_12 (some q5) h6
      else
        none) fun v1 h2 =>
  (astJ h2 a3 0 (iL v1)).bind fun h8 =>
  some (0, h8)
theorem A_X0_size {M : hp_M} {G : va_G} {h0 : HP} (X : hp_X M G h0 "RenamedWordsLaw" "size" cX0_size 4 (some .int) (tableOf [(0, 9, 12, 13)]) 7 147) (a1 : Option Nat) (a2 : Int) (a3 : Option Nat) (h : HP) : vv M G h0 4 (hp_End M G h0) jI h 0 [(0, LR a1), (1, LI a2), (2, LR a3)] [] (f_X0_size a1 a2 a3 h) := by
  unfold f_X0_size
  refine vv_aload_n (pc := 0) X (kf := 2) (i := 2) rfl 2 rfl dX0_size_0 ?_
  refine vv_iconst (pc := 1) X dX0_size_1 ?_
  refine vv_aload_n (pc := 2) X (kf := 0) (i := 0) rfl 0 rfl dX0_size_2 ?_
  refine vv_iload_n (pc := 3) X (kf := 1) (i := 1) rfl 1 rfl dX0_size_3 ?_
  refine vv_rcv (fun b3 t9 c9 fs9 e4 g9 k9 => ?_)
  cases List.mem_singleton.mp k9
  refine vv_xallI (pc := 4) (rest := [LI 0, LR a3]) (by rw [e4]; rfl) (fun r8 k8 e8 => zz_callV X (m_X1_size (hlM X) _ _ _ _ _ e8) g9 rfl rfl q3014 q3015 q3016 q132 q3017 nh_X1 rfl (by decide) (by decide) (Nat.le_of_ble_eq_true rfl) dX0_size_4) (fun v1 h2 => ?_) (fun q5 h6 => ?_)
  · refine vv_i2l (pc := 7) X dX0_size_7 ?_
    refine vv_lastore (pc := 8) X dX0_size_8 (fun h8 => ?_)
    refine vv_goto (pc := 9) (tgt := 15) X dX0_size_9 rfl ?_
    refine vv_iconst (pc := 15) X dX0_size_15 ?_
    exact vv_iretI X rfl rfl dX0_size_16
  · refine vvx_cls (fun _ c7 _ g9 => ?_)
    refine vvx_if (fun e9 => ?_) (fun _ => ?_)
    · subst e9
      refine vvx_catch X g9 rfl [] ⟨0, 9, 12, 13⟩ [] rfl (fun z hz => nomatch hz) rfl (by decide) q3013 q275 ?_
      exact vv_sub [] (by rfl) (B_X0_size_12 X _ _)
    · exact vvx_none
theorem m_X0_size {l : Launch} (hl : l.stackTraces = false) {G : va_G} (a1 : Option Nat) (a2 : Int) (a3 : Option Nat) (h : HP) : ∀ r hf, f_X0_size a1 a2 a3 h = some (r, hf) → Ct l yX0_size (wsW_ yX0_size cX0_size 4 (some .int) [(0, 9, 12, 13)]) 7 147 G h [va_rf a1, .int (iI a2), va_rf a3] (jI r) hf :=
  zz_ofWH hl (by decide +kernel) (lv := [(0, LR a1), (1, LI a2), (2, LR a3)]) (by simp [lv_args, lvL, lvV, zz_rfc, zz_rfs, zz_ci, zz_cr, zz_cj, zz_cf, zz_cd]) (by simp [lg_sl, zz_rfc, zz_ci, zz_cr, zz_cj, zz_cf, zz_cd]) (fun _ X => A_X0_size X a1 a2 a3 h)
-- X9_fails RenamedWordsModel.fails(ZI)Z
noncomputable def b_X9_fails_28 (s0 : Int) (h : HP) : Option ((Int) × HP) :=
  rtZ s0 (some (s0, h))
theorem B_X9_fails_28 {M : hp_M} {G : va_G} {h0 : HP} (X : hp_X M G h0 "RenamedWordsModel" "fails" cX9_fails 3 (some .boolean) [] 0 0) (s0 : Int) (h : HP) : vv M G h0 3 (hp_End M G h0) jI h 28 [] [LI s0] (b_X9_fails_28 s0 h) := by
  unfold b_X9_fails_28
  exact vv_iretZ X rfl rfl dX9_fails_28
noncomputable def b_X9_fails_16 (x0 : Option Nat) (h : HP) : Option ((Int) × HP) :=
  (rdI h x0 [7] 7).bind fun v2 =>
  iEQ v2 0
    (b_X9_fails_28 0 h)
    (b_X9_fails_28 1 h)
theorem B_X9_fails_16 {M : hp_M} {G : va_G} {h0 : HP} (X : hp_X M G h0 "RenamedWordsModel" "fails" cX9_fails 3 (some .boolean) [] 0 0) (x0 : Option Nat) (h : HP) : vv M G h0 3 (hp_End M G h0) jI h 16 [(0, LR x0)] [] (b_X9_fails_16 x0 h) := by
  unfold b_X9_fails_16
  refine vv_aload_n (pc := 16) X (kf := 0) (i := 0) rfl 0 rfl dX9_fails_16 ?_
  refine vv_getI (pc := 17) X (fun _ z => by cases List.mem_singleton.mp z; exact fl_X9_69_7) dX9_fails_17 (fun v2 => ?_)
  refine vv_if_eq (pc := 20) (tgt := 27) X dX9_fails_20 rfl ?_ ?_
  · refine vv_iconst (pc := 27) X dX9_fails_27 ?_
    exact vv_sub [] (by rfl) (B_X9_fails_28 X _ _)
  · refine vv_iconst (pc := 23) X dX9_fails_23 ?_
    refine vv_goto (pc := 24) (tgt := 28) X dX9_fails_24 rfl ?_
    exact vv_sub [] (by rfl) (B_X9_fails_28 X _ _)
noncomputable def f_X9_fails (a0 : Nat) (a1 : Int) (a2 : Int) (h : HP) : Option ((Int) × HP) :=
  (rdI h (some a0) [7] 7).bind fun v1 =>
  iEQ v1 0
    (iEQ a1 0
      (b_X9_fails_16 (some a0) h)
      ((wrI h (some a0) [7] 7 a2).bind fun h3 =>
      b_X9_fails_16 (some a0) h3))
    (b_X9_fails_16 (some a0) h)
theorem A_X9_fails {M : hp_M} {G : va_G} {h0 : HP} (X : hp_X M G h0 "RenamedWordsModel" "fails" cX9_fails 3 (some .boolean) [] 0 0) (a0 : Nat) (a1 : Int) (a2 : Int) (h : HP) : vv M G h0 3 (hp_End M G h0) jI h 0 [(0, LR (some a0)), (1, LI a1), (2, LI a2)] [] (f_X9_fails a0 a1 a2 h) := by
  unfold f_X9_fails
  refine vv_aload_n (pc := 0) X (kf := 0) (i := 0) rfl 0 rfl dX9_fails_0 ?_
  refine vv_getI (pc := 1) X (fun _ z => by cases List.mem_singleton.mp z; exact fl_X9_69_7) dX9_fails_1 (fun v1 => ?_)
  refine vv_if_ne (pc := 4) (tgt := 16) X dX9_fails_4 rfl ?_ ?_
  · exact vv_sub [0] (by rfl) (B_X9_fails_16 X _ _)
  · refine vv_iload_n (pc := 7) X (kf := 1) (i := 1) rfl 1 rfl dX9_fails_7 ?_
    refine vv_if_eq (pc := 8) (tgt := 16) X dX9_fails_8 rfl ?_ ?_
    · exact vv_sub [0] (by rfl) (B_X9_fails_16 X _ _)
    · refine vv_aload_n (pc := 11) X (kf := 0) (i := 0) rfl 0 rfl dX9_fails_11 ?_
      refine vv_iload_n (pc := 12) X (kf := 2) (i := 2) rfl 2 rfl dX9_fails_12 ?_
      refine vv_putI (pc := 13) (fin := false) X (fun _ z => by cases List.mem_singleton.mp z; exact fl_X9_69_7) (fun z => nomatch z) (fun z => nomatch z) dX9_fails_13 (fun h3 => ?_)
      exact vv_sub [0] (by rfl) (B_X9_fails_16 X _ _)
theorem m_X9_fails {l : Launch} (hl : l.stackTraces = false) {G : va_G} (a0 : Nat) (a1 : Int) (a2 : Int) (h : HP) : ∀ r hf, f_X9_fails a0 a1 a2 h = some (r, hf) → Ct l yX9_fails (ws_ yX9_fails cX9_fails 3 (some .boolean)) 0 0 G h [.ref a0, .int (iI a1), .int (iI a2)] (jI r) hf :=
  zz_ofW hl (by decide +kernel) (lv := [(0, LR (some a0)), (1, LI a1), (2, LI a2)]) (by simp [lv_args, lvL, lvV, zz_rfc, zz_rfs, zz_ci, zz_cr, zz_cj, zz_cf, zz_cd]) (by simp [lg_sl, zz_rfc, zz_ci, zz_cr, zz_cj, zz_cf, zz_cd]) (fun _ X => A_X9_fails X a0 a1 a2 h)
-- X9_counts0 RenamedWordsModel.counts0([I[III)V
noncomputable def c_X9_counts0_24 (r24 : Option Nat → Option Nat → Int → Int → Int → HP → Option ((Unit) × HP)) (x0 : Option Nat) (x1 : Option Nat) (x2 : Int) (x3 : Int) (x4 : Int) (h : HP) : Option ((Unit) × HP) :=
  iLE x3 x4
    (some ((), h))
    ((aldI h .int x1 (x2 + x4)).bind fun v1 =>
    (aldI h .int x0 v1).bind fun v2 =>
    (astI h .int x0 v1 (v2 + 1)).bind fun h3 =>
    r24 x0 x1 x2 x3 (x4 + 1) h3)
noncomputable def b_X9_counts0_24 : Option Nat → Option Nat → Int → Int → Int → HP → Option ((Unit) × HP) := fx (fun _ _ _ _ _ _ => none) (c_X9_counts0_24) FU
theorem C_X9_counts0_24 {M : hp_M} {G : va_G} {h0 : HP} (X : hp_X M G h0 "RenamedWordsModel" "counts0" cX9_counts0 5 none [] 0 0) (r24 : Option Nat → Option Nat → Int → Int → Int → HP → Option ((Unit) × HP)) (hr24 : ∀ (y0 : Option Nat) (y1 : Option Nat) (y2 : Int) (y3 : Int) (y4 : Int) (h : HP), vv M G h0 5 (hp_End M G h0) jV h 24 [(0, LR y0), (1, LR y1), (2, LI y2), (3, LI y3), (4, LI y4)] [] (r24 y0 y1 y2 y3 y4 h)) (x0 : Option Nat) (x1 : Option Nat) (x2 : Int) (x3 : Int) (x4 : Int) (h : HP) : vv M G h0 5 (hp_End M G h0) jV h 24 [(0, LR x0), (1, LR x1), (2, LI x2), (3, LI x3), (4, LI x4)] [] (c_X9_counts0_24 r24 x0 x1 x2 x3 x4 h) := by
  unfold c_X9_counts0_24
  refine vv_iload (pc := 24) X 4 rfl dX9_counts0_24 ?_
  refine vv_iload_n (pc := 26) X (kf := 3) (i := 3) rfl 3 rfl dX9_counts0_26 ?_
  refine vv_icmp_ge (pc := 27) (tgt := 48) X dX9_counts0_27 rfl ?_ ?_
  · exact vv_vreturn X rfl rfl dX9_counts0_48
  · refine vv_aload_n (pc := 30) X (kf := 0) (i := 0) rfl 0 rfl dX9_counts0_30 ?_
    refine vv_aload_n (pc := 31) X (kf := 1) (i := 1) rfl 1 rfl dX9_counts0_31 ?_
    refine vv_iload_n (pc := 32) X (kf := 2) (i := 2) rfl 2 rfl dX9_counts0_32 ?_
    refine vv_iload (pc := 33) X 4 rfl dX9_counts0_33 ?_
    refine vv_iadd (pc := 35) X dX9_counts0_35 ?_
    refine vv_iaload (pc := 36) X dX9_counts0_36 (fun v1 => ?_)
    refine vv_dup2 (pc := 37) X rfl rfl dX9_counts0_37 ?_
    refine vv_iaload (pc := 38) X dX9_counts0_38 (fun v2 => ?_)
    refine vv_iconst (pc := 39) X dX9_counts0_39 ?_
    refine vv_iadd (pc := 40) X dX9_counts0_40 ?_
    refine vv_iastore (pc := 41) X dX9_counts0_41 (fun h3 => ?_)
    refine vv_iinc (pc := 42) (lv' := [(4, LI (x4 + 1)), (0, LR x0), (1, LR x1), (2, LI x2), (3, LI x3)]) X 4 rfl (by decide) rfl dX9_counts0_42 ?_
    refine vv_goto (pc := 45) (tgt := 24) X dX9_counts0_45 rfl ?_
    exact vv_sub [1, 2, 3, 4, 0] (by rfl) (hr24 _ _ _ _ _ _)
theorem B_X9_counts0_24 {M : hp_M} {G : va_G} {h0 : HP} (X : hp_X M G h0 "RenamedWordsModel" "counts0" cX9_counts0 5 none [] 0 0) : ∀ (x0 : Option Nat) (x1 : Option Nat) (x2 : Int) (x3 : Int) (x4 : Int) (h : HP), vv M G h0 5 (hp_End M G h0) jV h 24 [(0, LR x0), (1, LR x1), (2, LI x2), (3, LI x3), (4, LI x4)] [] (b_X9_counts0_24 x0 x1 x2 x3 x4 h) := by
  unfold b_X9_counts0_24
  generalize FU = n
  induction n with
  | zero => intro x0 x1 x2 x3 x4 h; exact vv_none
  | succ n ih => exact C_X9_counts0_24 X _ ih
noncomputable def c_X9_counts0_3 (r3 : Option Nat → Option Nat → Int → Int → Int → HP → Option ((Unit) × HP)) (x0 : Option Nat) (x1 : Option Nat) (x2 : Int) (x3 : Int) (x4 : Int) (h : HP) : Option ((Unit) × HP) :=
  iLE 26 x4
    (b_X9_counts0_24 x0 x1 x2 x3 0 h)
    ((astI h .int x0 x4 0).bind fun h4 =>
    r3 x0 x1 x2 x3 (x4 + 1) h4)
noncomputable def b_X9_counts0_3 : Option Nat → Option Nat → Int → Int → Int → HP → Option ((Unit) × HP) := fx (fun _ _ _ _ _ _ => none) (c_X9_counts0_3) FU
theorem C_X9_counts0_3 {M : hp_M} {G : va_G} {h0 : HP} (X : hp_X M G h0 "RenamedWordsModel" "counts0" cX9_counts0 5 none [] 0 0) (r3 : Option Nat → Option Nat → Int → Int → Int → HP → Option ((Unit) × HP)) (hr3 : ∀ (y0 : Option Nat) (y1 : Option Nat) (y2 : Int) (y3 : Int) (y4 : Int) (h : HP), vv M G h0 5 (hp_End M G h0) jV h 3 [(0, LR y0), (1, LR y1), (2, LI y2), (3, LI y3), (4, LI y4)] [] (r3 y0 y1 y2 y3 y4 h)) (x0 : Option Nat) (x1 : Option Nat) (x2 : Int) (x3 : Int) (x4 : Int) (h : HP) : vv M G h0 5 (hp_End M G h0) jV h 3 [(0, LR x0), (1, LR x1), (2, LI x2), (3, LI x3), (4, LI x4)] [] (c_X9_counts0_3 r3 x0 x1 x2 x3 x4 h) := by
  unfold c_X9_counts0_3
  refine vv_iload (pc := 3) X 4 rfl dX9_counts0_3 ?_
  refine vv_bipush (pc := 5) X (by decide) dX9_counts0_5 ?_
  refine vv_icmp_ge (pc := 7) (tgt := 21) X dX9_counts0_7 rfl ?_ ?_
  · refine vv_iconst (pc := 21) X dX9_counts0_21 ?_
    refine vv_istore (pc := 22) (lv' := [(4, LI 0), (0, LR x0), (1, LR x1), (2, LI x2), (3, LI x3)]) X (by decide) rfl dX9_counts0_22 ?_
    exact vv_sub [1, 2, 3, 4, 0] (by rfl) (B_X9_counts0_24 X _ _ _ _ _ _)
  · refine vv_aload_n (pc := 10) X (kf := 0) (i := 0) rfl 0 rfl dX9_counts0_10 ?_
    refine vv_iload (pc := 11) X 4 rfl dX9_counts0_11 ?_
    refine vv_iconst (pc := 13) X dX9_counts0_13 ?_
    refine vv_iastore (pc := 14) X dX9_counts0_14 (fun h4 => ?_)
    refine vv_iinc (pc := 15) (lv' := [(4, LI (x4 + 1)), (0, LR x0), (1, LR x1), (2, LI x2), (3, LI x3)]) X 4 rfl (by decide) rfl dX9_counts0_15 ?_
    refine vv_goto (pc := 18) (tgt := 3) X dX9_counts0_18 rfl ?_
    exact vv_sub [1, 2, 3, 4, 0] (by rfl) (hr3 _ _ _ _ _ _)
theorem B_X9_counts0_3 {M : hp_M} {G : va_G} {h0 : HP} (X : hp_X M G h0 "RenamedWordsModel" "counts0" cX9_counts0 5 none [] 0 0) : ∀ (x0 : Option Nat) (x1 : Option Nat) (x2 : Int) (x3 : Int) (x4 : Int) (h : HP), vv M G h0 5 (hp_End M G h0) jV h 3 [(0, LR x0), (1, LR x1), (2, LI x2), (3, LI x3), (4, LI x4)] [] (b_X9_counts0_3 x0 x1 x2 x3 x4 h) := by
  unfold b_X9_counts0_3
  generalize FU = n
  induction n with
  | zero => intro x0 x1 x2 x3 x4 h; exact vv_none
  | succ n ih => exact C_X9_counts0_3 X _ ih
noncomputable def f_X9_counts0 (a1 : Option Nat) (a2 : Option Nat) (a3 : Int) (a4 : Int) (h : HP) : Option ((Unit) × HP) :=
  b_X9_counts0_3 a1 a2 a3 a4 0 h
theorem A_X9_counts0 {M : hp_M} {G : va_G} {h0 : HP} (X : hp_X M G h0 "RenamedWordsModel" "counts0" cX9_counts0 5 none [] 0 0) (a1 : Option Nat) (a2 : Option Nat) (a3 : Int) (a4 : Int) (h : HP) : vv M G h0 5 (hp_End M G h0) jV h 0 [(0, LR a1), (1, LR a2), (2, LI a3), (3, LI a4)] [] (f_X9_counts0 a1 a2 a3 a4 h) := by
  unfold f_X9_counts0
  refine vv_iconst (pc := 0) X dX9_counts0_0 ?_
  refine vv_istore (pc := 1) (lv' := [(4, LI 0), (0, LR a1), (1, LR a2), (2, LI a3), (3, LI a4)]) X (by decide) rfl dX9_counts0_1 ?_
  exact vv_sub [1, 2, 3, 4, 0] (by rfl) (B_X9_counts0_3 X _ _ _ _ _ _)
theorem m_X9_counts0 {l : Launch} (hl : l.stackTraces = false) {G : va_G} (a1 : Option Nat) (a2 : Option Nat) (a3 : Int) (a4 : Int) (h : HP) : ∀ r hf, f_X9_counts0 a1 a2 a3 a4 h = some (r, hf) → Ct l yX9_counts0 (ws_ yX9_counts0 cX9_counts0 5 none) 0 0 G h [va_rf a1, va_rf a2, .int (iI a3), .int (iI a4)] (jV r) hf :=
  zz_ofW hl (by decide +kernel) (lv := [(0, LR a1), (1, LR a2), (2, LI a3), (3, LI a4)]) (by simp [lv_args, lvL, lvV, zz_rfc, zz_rfs, zz_ci, zz_cr, zz_cj, zz_cf, zz_cd]) (by simp [lg_sl, zz_rfc, zz_ci, zz_cr, zz_cj, zz_cf, zz_cd]) (fun _ X => A_X9_counts0 X a1 a2 a3 a4 h)
-- X9_unlike RenamedWordsModel.unlike(IIZ)I
noncomputable def b_X9_unlike_53 (r19 : Option Nat → Int → Int → Int → HP → Option ((Int) × HP)) (x0 : Option Nat) (x3 : Int) (x5 : Int) (s0 : Int) (s1 : Int) (h : HP) : Option ((Int) × HP) :=
  hb (f_X9_one s0 h) fun v7 h8 =>
  r19 x0 x3 (s1 + v7) (x5 + 1) h8
theorem B_X9_unlike_53 {M : hp_M} {G : va_G} {h0 : HP} (X : hp_X M G h0 "RenamedWordsModel" "unlike" cX9_unlike 6 (some .int) [] 1 32) (r19 : Option Nat → Int → Int → Int → HP → Option ((Int) × HP)) (hr19 : ∀ (y0 : Option Nat) (y3 : Int) (y4 : Int) (y5 : Int) (h : HP), vv M G h0 6 (hp_End M G h0) jI h 19 [(0, LR y0), (3, LI y3), (4, LI y4), (5, LI y5)] [] (r19 y0 y3 y4 y5 h)) (x0 : Option Nat) (x3 : Int) (x5 : Int) (s0 : Int) (s1 : Int) (h : HP) : vv M G h0 6 (hp_End M G h0) jI h 53 [(0, LR x0), (3, LI x3), (5, LI x5)] [LI s0, LI s1] (b_X9_unlike_53 r19 x0 x3 x5 s0 s1 h) := by
  unfold b_X9_unlike_53
  refine vv_callI (pc := 53) (rest := [LI s1]) (by rfl) (fun r8 k8 e8 => zz_callS X (m_X9_one (hlM X) _ _ _ _ e8) q3559 q3560 q164 q3561 nh_X9 rfl (by decide) (by decide) (Nat.le_of_ble_eq_true rfl) dX9_unlike_53) (fun v7 h8 => ?_)
  refine vv_iadd (pc := 56) X dX9_unlike_56 ?_
  refine vv_istore (pc := 57) (lv' := [(4, LI (s1 + v7)), (0, LR x0), (3, LI x3), (5, LI x5)]) X (by decide) rfl dX9_unlike_57 ?_
  refine vv_iinc (pc := 59) (lv' := [(5, LI (x5 + 1)), (4, LI (s1 + v7)), (0, LR x0), (3, LI x3)]) X 3 rfl (by decide) rfl dX9_unlike_59 ?_
  refine vv_goto (pc := 62) (tgt := 19) X dX9_unlike_62 rfl ?_
  exact vv_sub [2, 3, 1, 0] (by rfl) (hr19 _ _ _ _ _)
noncomputable def b_X9_unlike_52 (r19 : Option Nat → Int → Int → Int → HP → Option ((Int) × HP)) (x0 : Option Nat) (x3 : Int) (x5 : Int) (s0 : Int) (h : HP) : Option ((Int) × HP) :=
  b_X9_unlike_53 r19 x0 x3 x5 0 s0 h
theorem B_X9_unlike_52 {M : hp_M} {G : va_G} {h0 : HP} (X : hp_X M G h0 "RenamedWordsModel" "unlike" cX9_unlike 6 (some .int) [] 1 32) (r19 : Option Nat → Int → Int → Int → HP → Option ((Int) × HP)) (hr19 : ∀ (y0 : Option Nat) (y3 : Int) (y4 : Int) (y5 : Int) (h : HP), vv M G h0 6 (hp_End M G h0) jI h 19 [(0, LR y0), (3, LI y3), (4, LI y4), (5, LI y5)] [] (r19 y0 y3 y4 y5 h)) (x0 : Option Nat) (x3 : Int) (x5 : Int) (s0 : Int) (h : HP) : vv M G h0 6 (hp_End M G h0) jI h 52 [(0, LR x0), (3, LI x3), (5, LI x5)] [LI s0] (b_X9_unlike_52 r19 x0 x3 x5 s0 h) := by
  unfold b_X9_unlike_52
  refine vv_iconst (pc := 52) X dX9_unlike_52 ?_
  exact B_X9_unlike_53 X r19 hr19 _ _ _ _ _ _
noncomputable def c_X9_unlike_19 (r19 : Option Nat → Int → Int → Int → HP → Option ((Int) × HP)) (x0 : Option Nat) (x3 : Int) (x4 : Int) (x5 : Int) (h : HP) : Option ((Int) × HP) :=
  iLE 26 x5
    (some (x4, h))
    ((rdR h x0 [7] 8).bind fun v5 =>
    (aldI h .int v5 x5).bind fun v6 =>
    iLE v6 0
      (b_X9_unlike_52 r19 x0 x3 x5 x4 h)
      ((rcv h x0 [7]).bind fun b11 =>
      hb (f_X9_isFirm b11 x5 h) fun v9 h10 =>
      iEQ v9 x3
        (b_X9_unlike_53 r19 x0 x3 x5 1 x4 h10)
        (b_X9_unlike_52 r19 x0 x3 x5 x4 h10)))
noncomputable def b_X9_unlike_19 : Option Nat → Int → Int → Int → HP → Option ((Int) × HP) := fx (fun _ _ _ _ _ => none) (c_X9_unlike_19) FU
theorem C_X9_unlike_19 {M : hp_M} {G : va_G} {h0 : HP} (X : hp_X M G h0 "RenamedWordsModel" "unlike" cX9_unlike 6 (some .int) [] 1 32) (r19 : Option Nat → Int → Int → Int → HP → Option ((Int) × HP)) (hr19 : ∀ (y0 : Option Nat) (y3 : Int) (y4 : Int) (y5 : Int) (h : HP), vv M G h0 6 (hp_End M G h0) jI h 19 [(0, LR y0), (3, LI y3), (4, LI y4), (5, LI y5)] [] (r19 y0 y3 y4 y5 h)) (x0 : Option Nat) (x3 : Int) (x4 : Int) (x5 : Int) (h : HP) : vv M G h0 6 (hp_End M G h0) jI h 19 [(0, LR x0), (3, LI x3), (4, LI x4), (5, LI x5)] [] (c_X9_unlike_19 r19 x0 x3 x4 x5 h) := by
  unfold c_X9_unlike_19
  refine vv_iload (pc := 19) X 3 rfl dX9_unlike_19 ?_
  refine vv_bipush (pc := 21) X (by decide) dX9_unlike_21 ?_
  refine vv_icmp_ge (pc := 23) (tgt := 65) X dX9_unlike_23 rfl ?_ ?_
  · refine vv_iload (pc := 65) X 2 rfl dX9_unlike_65 ?_
    exact vv_iretI X rfl rfl dX9_unlike_67
  · refine vv_iload (pc := 26) X 2 rfl dX9_unlike_26 ?_
    refine vv_aload_n (pc := 28) X (kf := 0) (i := 0) rfl 0 rfl dX9_unlike_28 ?_
    refine vv_getR (pc := 29) X (fun _ z => by cases List.mem_singleton.mp z; exact fl_X9_29_7) dX9_unlike_29 (fun v5 => ?_)
    refine vv_iload (pc := 32) X 3 rfl dX9_unlike_32 ?_
    refine vv_iaload (pc := 34) X dX9_unlike_34 (fun v6 => ?_)
    refine vv_if_le (pc := 35) (tgt := 52) X dX9_unlike_35 rfl ?_ ?_
    · exact vv_sub [0, 1, 3] (by rfl) (B_X9_unlike_52 X r19 hr19 _ _ _ _ _)
    · refine vv_aload_n (pc := 38) X (kf := 0) (i := 0) rfl 0 rfl dX9_unlike_38 ?_
      refine vv_iload (pc := 39) X 3 rfl dX9_unlike_39 ?_
      refine vv_rcv (fun b11 t9 c9 fs9 e12 g9 k9 => ?_)
      cases List.mem_singleton.mp k9
      refine vv_callI (pc := 41) (rest := [LI x4]) (by rw [e12]; rfl) (fun r8 k8 e8 => zz_callV X (m_X9_isFirm (hlM X) _ _ _ _ _ e8) g9 rfl rfl q3789 q3791 qs97 q164 q3792 nh_X9 rfl (by decide) (by decide) (Nat.le_of_ble_eq_true rfl) dX9_unlike_41) (fun v9 h10 => ?_)
      refine vv_iload_n (pc := 44) X (kf := 3) (i := 3) rfl 1 rfl dX9_unlike_44 ?_
      refine vv_icmp_ne (pc := 45) (tgt := 52) X dX9_unlike_45 rfl ?_ ?_
      · exact vv_sub [0, 1, 3] (by rfl) (B_X9_unlike_52 X r19 hr19 _ _ _ _ _)
      · refine vv_iconst (pc := 48) X dX9_unlike_48 ?_
        refine vv_goto (pc := 49) (tgt := 53) X dX9_unlike_49 rfl ?_
        exact vv_sub [0, 1, 3] (by rfl) (B_X9_unlike_53 X r19 hr19 _ _ _ _ _ _)
theorem B_X9_unlike_19 {M : hp_M} {G : va_G} {h0 : HP} (X : hp_X M G h0 "RenamedWordsModel" "unlike" cX9_unlike 6 (some .int) [] 1 32) : ∀ (x0 : Option Nat) (x3 : Int) (x4 : Int) (x5 : Int) (h : HP), vv M G h0 6 (hp_End M G h0) jI h 19 [(0, LR x0), (3, LI x3), (4, LI x4), (5, LI x5)] [] (b_X9_unlike_19 x0 x3 x4 x5 h) := by
  unfold b_X9_unlike_19
  generalize FU = n
  induction n with
  | zero => intro x0 x3 x4 x5 h; exact vv_none
  | succ n ih => exact C_X9_unlike_19 X _ ih
noncomputable def f_X9_unlike (a0 : Nat) (a1 : Int) (a2 : Int) (a3 : Int) (h : HP) : Option ((Int) × HP) :=
  (rdR h (some a0) [7] 8).bind fun v1 =>
  (rdR h (some a0) [7] 0).bind fun v2 =>
  hb (f_X9_counts0 v1 v2 a1 a2 h) fun _ h4 =>
  b_X9_unlike_19 (some a0) a3 0 0 h4
theorem A_X9_unlike {M : hp_M} {G : va_G} {h0 : HP} (X : hp_X M G h0 "RenamedWordsModel" "unlike" cX9_unlike 6 (some .int) [] 1 32) (a0 : Nat) (a1 : Int) (a2 : Int) (a3 : Int) (h : HP) : vv M G h0 6 (hp_End M G h0) jI h 0 [(0, LR (some a0)), (1, LI a1), (2, LI a2), (3, LI a3)] [] (f_X9_unlike a0 a1 a2 a3 h) := by
  unfold f_X9_unlike
  refine vv_aload_n (pc := 0) X (kf := 0) (i := 0) rfl 0 rfl dX9_unlike_0 ?_
  refine vv_getR (pc := 1) X (fun _ z => by cases List.mem_singleton.mp z; exact fl_X9_29_7) dX9_unlike_1 (fun v1 => ?_)
  refine vv_aload_n (pc := 4) X (kf := 0) (i := 0) rfl 0 rfl dX9_unlike_4 ?_
  refine vv_getR (pc := 5) X (fun _ z => by cases List.mem_singleton.mp z; exact fl_X9_9_7) dX9_unlike_5 (fun v2 => ?_)
  refine vv_iload_n (pc := 8) X (kf := 1) (i := 1) rfl 1 rfl dX9_unlike_8 ?_
  refine vv_iload_n (pc := 9) X (kf := 2) (i := 2) rfl 2 rfl dX9_unlike_9 ?_
  refine vv_callV (pc := 10) (rest := []) (by rfl) (fun r8 k8 e8 => zz_callS X (m_X9_counts0 (hlM X) _ _ _ _ _ _ _ e8) q3849 q3850 q164 q3851 nh_X9 rfl (by decide) (by decide) (Nat.le_of_ble_eq_true rfl) dX9_unlike_10) (fun v3 h4 => ?_)
  refine vv_iconst (pc := 13) X dX9_unlike_13 ?_
  refine vv_istore (pc := 14) (lv' := [(4, LI 0), (0, LR (some a0)), (1, LI a1), (2, LI a2), (3, LI a3)]) X (by decide) rfl dX9_unlike_14 ?_
  refine vv_iconst (pc := 16) X dX9_unlike_16 ?_
  refine vv_istore (pc := 17) (lv' := [(5, LI 0), (4, LI 0), (0, LR (some a0)), (1, LI a1), (2, LI a2), (3, LI a3)]) X (by decide) rfl dX9_unlike_17 ?_
  exact vv_sub [2, 5, 1, 0] (by rfl) (B_X9_unlike_19 X _ _ _ _ _)
theorem m_X9_unlike {l : Launch} (hl : l.stackTraces = false) {G : va_G} (a0 : Nat) (a1 : Int) (a2 : Int) (a3 : Int) (h : HP) : ∀ r hf, f_X9_unlike a0 a1 a2 a3 h = some (r, hf) → Ct l yX9_unlike (ws_ yX9_unlike cX9_unlike 6 (some .int)) 1 32 G h [.ref a0, .int (iI a1), .int (iI a2), .int (iI a3)] (jI r) hf :=
  zz_ofW hl (by decide +kernel) (lv := [(0, LR (some a0)), (1, LI a1), (2, LI a2), (3, LI a3)]) (by simp [lv_args, lvL, lvV, zz_rfc, zz_rfs, zz_ci, zz_cr, zz_cj, zz_cf, zz_cd]) (by simp [lg_sl, zz_rfc, zz_ci, zz_cr, zz_cj, zz_cf, zz_cd]) (fun _ X => A_X9_unlike X a0 a1 a2 a3 h)
-- X9_loose RenamedWordsModel.loose()I
noncomputable def b_X9_loose_36 (r4 : Option Nat → Int → Int → HP → Option ((Int) × HP)) (x0 : Option Nat) (x2 : Int) (s0 : Int) (s1 : Int) (h : HP) : Option ((Int) × HP) :=
  hb (f_X9_one s0 h) fun v9 h10 =>
  r4 x0 (s1 + v9) (x2 + 1) h10
theorem B_X9_loose_36 {M : hp_M} {G : va_G} {h0 : HP} (X : hp_X M G h0 "RenamedWordsModel" "loose" cX9_loose 3 (some .int) [] 1 29) (r4 : Option Nat → Int → Int → HP → Option ((Int) × HP)) (hr4 : ∀ (y0 : Option Nat) (y1 : Int) (y2 : Int) (h : HP), vv M G h0 3 (hp_End M G h0) jI h 4 [(0, LR y0), (1, LI y1), (2, LI y2)] [] (r4 y0 y1 y2 h)) (x0 : Option Nat) (x2 : Int) (s0 : Int) (s1 : Int) (h : HP) : vv M G h0 3 (hp_End M G h0) jI h 36 [(0, LR x0), (2, LI x2)] [LI s0, LI s1] (b_X9_loose_36 r4 x0 x2 s0 s1 h) := by
  unfold b_X9_loose_36
  refine vv_callI (pc := 36) (rest := [LI s1]) (by rfl) (fun r8 k8 e8 => zz_callS X (m_X9_one (hlM X) _ _ _ _ e8) q3559 q3560 q164 q3561 nh_X9 rfl (by decide) (by decide) (Nat.le_of_ble_eq_true rfl) dX9_loose_36) (fun v9 h10 => ?_)
  refine vv_iadd (pc := 39) X dX9_loose_39 ?_
  refine vv_istore_n (pc := 40) (lv' := [(1, LI (s1 + v9)), (0, LR x0), (2, LI x2)]) X (kf := 1) (i := 1) rfl (by decide) rfl dX9_loose_40 ?_
  refine vv_iinc (pc := 41) (lv' := [(2, LI (x2 + 1)), (1, LI (s1 + v9)), (0, LR x0)]) X 2 rfl (by decide) rfl dX9_loose_41 ?_
  refine vv_goto (pc := 44) (tgt := 4) X dX9_loose_44 rfl ?_
  exact vv_sub [2, 1, 0] (by rfl) (hr4 _ _ _ _)
noncomputable def c_X9_loose_4 (r4 : Option Nat → Int → Int → HP → Option ((Int) × HP)) (x0 : Option Nat) (x1 : Int) (x2 : Int) (h : HP) : Option ((Int) × HP) :=
  (rdR h x0 [7] 0).bind fun v1 =>
  (aldI h .int v1 1).bind fun v2 =>
  iLE v2 x2
    (some (x1, h))
    ((rdR h x0 [7] 0).bind fun v3 =>
    (aldI h .int v3 (16 + x2)).bind fun v4 =>
    (rcv h x0 [7]).bind fun b7 =>
    hb (f_X9_isFirm b7 v4 h) fun v5 h6 =>
    iEQ v5 0
      (b_X9_loose_36 r4 x0 x2 1 x1 h6)
      (b_X9_loose_36 r4 x0 x2 0 x1 h6))
noncomputable def b_X9_loose_4 : Option Nat → Int → Int → HP → Option ((Int) × HP) := fx (fun _ _ _ _ => none) (c_X9_loose_4) FU
theorem C_X9_loose_4 {M : hp_M} {G : va_G} {h0 : HP} (X : hp_X M G h0 "RenamedWordsModel" "loose" cX9_loose 3 (some .int) [] 1 29) (r4 : Option Nat → Int → Int → HP → Option ((Int) × HP)) (hr4 : ∀ (y0 : Option Nat) (y1 : Int) (y2 : Int) (h : HP), vv M G h0 3 (hp_End M G h0) jI h 4 [(0, LR y0), (1, LI y1), (2, LI y2)] [] (r4 y0 y1 y2 h)) (x0 : Option Nat) (x1 : Int) (x2 : Int) (h : HP) : vv M G h0 3 (hp_End M G h0) jI h 4 [(0, LR x0), (1, LI x1), (2, LI x2)] [] (c_X9_loose_4 r4 x0 x1 x2 h) := by
  unfold c_X9_loose_4
  refine vv_iload_n (pc := 4) X (kf := 2) (i := 2) rfl 2 rfl dX9_loose_4 ?_
  refine vv_aload_n (pc := 5) X (kf := 0) (i := 0) rfl 0 rfl dX9_loose_5 ?_
  refine vv_getR (pc := 6) X (fun _ z => by cases List.mem_singleton.mp z; exact fl_X9_9_7) dX9_loose_6 (fun v1 => ?_)
  refine vv_iconst (pc := 9) X dX9_loose_9 ?_
  refine vv_iaload (pc := 10) X dX9_loose_10 (fun v2 => ?_)
  refine vv_icmp_ge (pc := 11) (tgt := 47) X dX9_loose_11 rfl ?_ ?_
  · refine vv_iload_n (pc := 47) X (kf := 1) (i := 1) rfl 1 rfl dX9_loose_47 ?_
    exact vv_iretI X rfl rfl dX9_loose_48
  · refine vv_iload_n (pc := 14) X (kf := 1) (i := 1) rfl 1 rfl dX9_loose_14 ?_
    refine vv_aload_n (pc := 15) X (kf := 0) (i := 0) rfl 0 rfl dX9_loose_15 ?_
    refine vv_aload_n (pc := 16) X (kf := 0) (i := 0) rfl 0 rfl dX9_loose_16 ?_
    refine vv_getR (pc := 17) X (fun _ z => by cases List.mem_singleton.mp z; exact fl_X9_9_7) dX9_loose_17 (fun v3 => ?_)
    refine vv_bipush (pc := 20) X (by decide) dX9_loose_20 ?_
    refine vv_iload_n (pc := 22) X (kf := 2) (i := 2) rfl 2 rfl dX9_loose_22 ?_
    refine vv_iadd (pc := 23) X dX9_loose_23 ?_
    refine vv_iaload (pc := 24) X dX9_loose_24 (fun v4 => ?_)
    refine vv_rcv (fun b7 t9 c9 fs9 e8 g9 k9 => ?_)
    cases List.mem_singleton.mp k9
    refine vv_callI (pc := 25) (rest := [LI x1]) (by rw [e8]; rfl) (fun r8 k8 e8 => zz_callV X (m_X9_isFirm (hlM X) _ _ _ _ _ e8) g9 rfl rfl q3789 q3791 qs97 q164 q3792 nh_X9 rfl (by decide) (by decide) (Nat.le_of_ble_eq_true rfl) dX9_loose_25) (fun v5 h6 => ?_)
    refine vv_if_ne (pc := 28) (tgt := 35) X dX9_loose_28 rfl ?_ ?_
    · refine vv_iconst (pc := 35) X dX9_loose_35 ?_
      exact vv_sub [0, 2] (by rfl) (B_X9_loose_36 X r4 hr4 _ _ _ _ _)
    · refine vv_iconst (pc := 31) X dX9_loose_31 ?_
      refine vv_goto (pc := 32) (tgt := 36) X dX9_loose_32 rfl ?_
      exact vv_sub [0, 2] (by rfl) (B_X9_loose_36 X r4 hr4 _ _ _ _ _)
theorem B_X9_loose_4 {M : hp_M} {G : va_G} {h0 : HP} (X : hp_X M G h0 "RenamedWordsModel" "loose" cX9_loose 3 (some .int) [] 1 29) : ∀ (x0 : Option Nat) (x1 : Int) (x2 : Int) (h : HP), vv M G h0 3 (hp_End M G h0) jI h 4 [(0, LR x0), (1, LI x1), (2, LI x2)] [] (b_X9_loose_4 x0 x1 x2 h) := by
  unfold b_X9_loose_4
  generalize FU = n
  induction n with
  | zero => intro x0 x1 x2 h; exact vv_none
  | succ n ih => exact C_X9_loose_4 X _ ih
noncomputable def f_X9_loose (a0 : Nat) (h : HP) : Option ((Int) × HP) :=
  b_X9_loose_4 (some a0) 0 0 h
theorem A_X9_loose {M : hp_M} {G : va_G} {h0 : HP} (X : hp_X M G h0 "RenamedWordsModel" "loose" cX9_loose 3 (some .int) [] 1 29) (a0 : Nat) (h : HP) : vv M G h0 3 (hp_End M G h0) jI h 0 [(0, LR (some a0))] [] (f_X9_loose a0 h) := by
  unfold f_X9_loose
  refine vv_iconst (pc := 0) X dX9_loose_0 ?_
  refine vv_istore_n (pc := 1) (lv' := [(1, LI 0), (0, LR (some a0))]) X (kf := 1) (i := 1) rfl (by decide) rfl dX9_loose_1 ?_
  refine vv_iconst (pc := 2) X dX9_loose_2 ?_
  refine vv_istore_n (pc := 3) (lv' := [(2, LI 0), (1, LI 0), (0, LR (some a0))]) X (kf := 2) (i := 2) rfl (by decide) rfl dX9_loose_3 ?_
  exact vv_sub [2, 1, 0] (by rfl) (B_X9_loose_4 X _ _ _ _)
theorem m_X9_loose {l : Launch} (hl : l.stackTraces = false) {G : va_G} (a0 : Nat) (h : HP) : ∀ r hf, f_X9_loose a0 h = some (r, hf) → Ct l yX9_loose (ws_ yX9_loose cX9_loose 3 (some .int)) 1 29 G h [.ref a0] (jI r) hf :=
  zz_ofW hl (by decide +kernel) (lv := [(0, LR (some a0))]) (by simp [lv_args, lvL, lvV, zz_rfc, zz_rfs, zz_ci, zz_cr, zz_cj, zz_cf, zz_cd]) (by simp [lg_sl, zz_rfc, zz_ci, zz_cr, zz_cj, zz_cf, zz_cd]) (fun _ X => A_X9_loose X a0 h)
-- X9_size RenamedWordsModel.size(I)I
noncomputable def b_X9_size_21 (x0 : Option Nat) (x1 : Int) (s0 : Int) (s1 : Option Nat) (h : HP) : Option ((Int) × HP) :=
  (rcv h s1 [7]).bind fun b6 =>
  hb (f_X9_fails b6 s0 1 h) fun v4 h5 =>
  iEQ v4 0
    (iIN x1
      (if x1 = 0 then
        (rdR h5 x0 [7] 0).bind fun v8 =>
        (aldI h5 .int v8 1).bind fun v9 =>
        some (v9, h5)
      else
      if x1 = 1 then
        (rdR h5 x0 [7] 0).bind fun v10 =>
        (aldI h5 .int v10 2).bind fun v11 =>
        some (v11, h5)
      else
      if x1 = 2 then
        (rdR h5 x0 [7] 0).bind fun v12 =>
        (aldI h5 .int v12 0).bind fun v13 =>
        some (v13, h5)
      else
      if x1 = 3 then
        (rdR h5 x0 [7] 0).bind fun v14 =>
        (aldI h5 .int v14 3).bind fun v15 =>
        some (v15, h5)
      else
      if x1 = 4 then
        (rdR h5 x0 [7] 0).bind fun v16 =>
        (aldI h5 .int v16 1).bind fun v17 =>
        (rcv h5 x0 [7]).bind fun b20 =>
        hb (f_X9_unlike b20 16 v17 1 h5) fun v18 h19 =>
        (rdR h19 x0 [7] 0).bind fun v22 =>
        (aldI h19 .int v22 1).bind fun v23 =>
        (rcv h19 x0 [7]).bind fun b26 =>
        hb (f_X9_unlike b26 16 v23 0 h19) fun v24 h25 =>
        some ((v18 + v24), h25)
      else
      if x1 = 5 then
        (rcv h5 x0 [7]).bind fun b30 =>
        hb (f_X9_loose b30 h5) fun v28 h29 =>
        some (v28, h29)
      else
      (rdI h5 x0 [7] 6).bind fun v32 =>
      some (v32, h5)))
    (some (0, h5))
theorem B_X9_size_21 {M : hp_M} {G : va_G} {h0 : HP} (X : hp_X M G h0 "RenamedWordsModel" "size" cX9_size 2 (some .int) [] 2 65) (x0 : Option Nat) (x1 : Int) (s0 : Int) (s1 : Option Nat) (h : HP) : vv M G h0 2 (hp_End M G h0) jI h 21 [(0, LR x0), (1, LI x1)] [LI s0, LR s1] (b_X9_size_21 x0 x1 s0 s1 h) := by
  unfold b_X9_size_21
  refine vv_iconst (pc := 21) X dX9_size_21 ?_
  refine vv_rcv (fun b6 t9 c9 fs9 e7 g9 k9 => ?_)
  cases List.mem_singleton.mp k9
  refine vv_callI (pc := 22) (rest := []) (by rw [e7]; rfl) (fun r8 k8 e8 => zz_callV X (m_X9_fails (hlM X) _ _ _ _ _ _ e8) g9 rfl rfl q3841 q3843 qs109 q164 q3844 nh_X9 rfl (by decide) (by decide) (Nat.le_of_ble_eq_true rfl) dX9_size_22) (fun v4 h5 => ?_)
  refine vv_if_eq (pc := 25) (tgt := 30) X dX9_size_25 rfl ?_ ?_
  · refine vv_iload_n (pc := 30) X (kf := 1) (i := 1) rfl 1 rfl dX9_size_30 ?_
    refine vv_iIN (fun hr => ?_)
    refine vv_if (fun e0 => ?_) (fun e0 => ?_)
    · refine vv_tsw (pc := 31) (off := 37) (tgt := 68) X dX9_size_31 hr (by omega) (by omega) (by rw [e0]; rfl) rfl ?_
      refine vv_aload_n (pc := 68) X (kf := 0) (i := 0) rfl 0 rfl dX9_size_68 ?_
      refine vv_getR (pc := 69) X (fun _ z => by cases List.mem_singleton.mp z; exact fl_X9_9_7) dX9_size_69 (fun v8 => ?_)
      refine vv_iconst (pc := 72) X dX9_size_72 ?_
      refine vv_iaload (pc := 73) X dX9_size_73 (fun v9 => ?_)
      exact vv_iretI X rfl rfl dX9_size_74
    refine vv_if (fun e1 => ?_) (fun e1 => ?_)
    · refine vv_tsw (pc := 31) (off := 44) (tgt := 75) X dX9_size_31 hr (by omega) (by omega) (by rw [e1]; rfl) rfl ?_
      refine vv_aload_n (pc := 75) X (kf := 0) (i := 0) rfl 0 rfl dX9_size_75 ?_
      refine vv_getR (pc := 76) X (fun _ z => by cases List.mem_singleton.mp z; exact fl_X9_9_7) dX9_size_76 (fun v10 => ?_)
      refine vv_iconst (pc := 79) X dX9_size_79 ?_
      refine vv_iaload (pc := 80) X dX9_size_80 (fun v11 => ?_)
      exact vv_iretI X rfl rfl dX9_size_81
    refine vv_if (fun e2 => ?_) (fun e2 => ?_)
    · refine vv_tsw (pc := 31) (off := 51) (tgt := 82) X dX9_size_31 hr (by omega) (by omega) (by rw [e2]; rfl) rfl ?_
      refine vv_aload_n (pc := 82) X (kf := 0) (i := 0) rfl 0 rfl dX9_size_82 ?_
      refine vv_getR (pc := 83) X (fun _ z => by cases List.mem_singleton.mp z; exact fl_X9_9_7) dX9_size_83 (fun v12 => ?_)
      refine vv_iconst (pc := 86) X dX9_size_86 ?_
      refine vv_iaload (pc := 87) X dX9_size_87 (fun v13 => ?_)
      exact vv_iretI X rfl rfl dX9_size_88
    refine vv_if (fun e3 => ?_) (fun e3 => ?_)
    · refine vv_tsw (pc := 31) (off := 58) (tgt := 89) X dX9_size_31 hr (by omega) (by omega) (by rw [e3]; rfl) rfl ?_
      refine vv_aload_n (pc := 89) X (kf := 0) (i := 0) rfl 0 rfl dX9_size_89 ?_
      refine vv_getR (pc := 90) X (fun _ z => by cases List.mem_singleton.mp z; exact fl_X9_9_7) dX9_size_90 (fun v14 => ?_)
      refine vv_iconst (pc := 93) X dX9_size_93 ?_
      refine vv_iaload (pc := 94) X dX9_size_94 (fun v15 => ?_)
      exact vv_iretI X rfl rfl dX9_size_95
    refine vv_if (fun e4 => ?_) (fun e4 => ?_)
    · refine vv_tsw (pc := 31) (off := 65) (tgt := 96) X dX9_size_31 hr (by omega) (by omega) (by rw [e4]; rfl) rfl ?_
      refine vv_aload_n (pc := 96) X (kf := 0) (i := 0) rfl 0 rfl dX9_size_96 ?_
      refine vv_bipush (pc := 97) X (by decide) dX9_size_97 ?_
      refine vv_aload_n (pc := 99) X (kf := 0) (i := 0) rfl 0 rfl dX9_size_99 ?_
      refine vv_getR (pc := 100) X (fun _ z => by cases List.mem_singleton.mp z; exact fl_X9_9_7) dX9_size_100 (fun v16 => ?_)
      refine vv_iconst (pc := 103) X dX9_size_103 ?_
      refine vv_iaload (pc := 104) X dX9_size_104 (fun v17 => ?_)
      refine vv_iconst (pc := 105) X dX9_size_105 ?_
      refine vv_rcv (fun b20 t9 c9 fs9 e21 g9 k9 => ?_)
      cases List.mem_singleton.mp k9
      refine vv_callI (pc := 106) (rest := []) (by rw [e21]; rfl) (fun r8 k8 e8 => zz_callV X (m_X9_unlike (hlM X) _ _ _ _ _ _ _ e8) g9 rfl rfl q3845 q3847 qs110 q164 q3848 nh_X9 rfl (by decide) (by decide) (Nat.le_of_ble_eq_true rfl) dX9_size_106) (fun v18 h19 => ?_)
      refine vv_aload_n (pc := 109) X (kf := 0) (i := 0) rfl 0 rfl dX9_size_109 ?_
      refine vv_bipush (pc := 110) X (by decide) dX9_size_110 ?_
      refine vv_aload_n (pc := 112) X (kf := 0) (i := 0) rfl 0 rfl dX9_size_112 ?_
      refine vv_getR (pc := 113) X (fun _ z => by cases List.mem_singleton.mp z; exact fl_X9_9_7) dX9_size_113 (fun v22 => ?_)
      refine vv_iconst (pc := 116) X dX9_size_116 ?_
      refine vv_iaload (pc := 117) X dX9_size_117 (fun v23 => ?_)
      refine vv_iconst (pc := 118) X dX9_size_118 ?_
      refine vv_rcv (fun b26 t9 c9 fs9 e27 g9 k9 => ?_)
      cases List.mem_singleton.mp k9
      refine vv_callI (pc := 119) (rest := [LI v18]) (by rw [e27]; rfl) (fun r8 k8 e8 => zz_callV X (m_X9_unlike (hlM X) _ _ _ _ _ _ _ e8) g9 rfl rfl q3845 q3847 qs110 q164 q3848 nh_X9 rfl (by decide) (by decide) (Nat.le_of_ble_eq_true rfl) dX9_size_119) (fun v24 h25 => ?_)
      refine vv_iadd (pc := 122) X dX9_size_122 ?_
      exact vv_iretI X rfl rfl dX9_size_123
    refine vv_if (fun e5 => ?_) (fun e5 => ?_)
    · refine vv_tsw (pc := 31) (off := 93) (tgt := 124) X dX9_size_31 hr (by omega) (by omega) (by rw [e5]; rfl) rfl ?_
      refine vv_aload_n (pc := 124) X (kf := 0) (i := 0) rfl 0 rfl dX9_size_124 ?_
      refine vv_rcv (fun b30 t9 c9 fs9 e31 g9 k9 => ?_)
      cases List.mem_singleton.mp k9
      refine vv_callI (pc := 125) (rest := []) (by rw [e31]; rfl) (fun r8 k8 e8 => zz_callV X (m_X9_loose (hlM X) _ _ _ _ e8) g9 rfl rfl q3852 q3854 qs111 q164 q3855 nh_X9 rfl (by decide) (by decide) (Nat.le_of_ble_eq_true rfl) dX9_size_125) (fun v28 h29 => ?_)
      exact vv_iretI X rfl rfl dX9_size_128
    refine vv_tswD (pc := 31) (tgt := 129) X dX9_size_31 hr (by omega) rfl ?_
    refine vv_aload_n (pc := 129) X (kf := 0) (i := 0) rfl 0 rfl dX9_size_129 ?_
    refine vv_getI (pc := 130) X (fun _ z => by cases List.mem_singleton.mp z; exact fl_X9_264_7) dX9_size_130 (fun v32 => ?_)
    exact vv_iretI X rfl rfl dX9_size_133
  · refine vv_iconst (pc := 28) X dX9_size_28 ?_
    exact vv_iretI X rfl rfl dX9_size_29
noncomputable def f_X9_size (a0 : Nat) (a1 : Int) (h : HP) : Option ((Int) × HP) :=
  (wrI h (some a0) [7] 7 0).bind fun h1 =>
  hb (f_X9_in a1 0 6 h1) fun v2 h3 =>
  iEQ v2 0
    (b_X9_size_21 (some a0) a1 1 (some a0) h3)
    (b_X9_size_21 (some a0) a1 0 (some a0) h3)
theorem A_X9_size {M : hp_M} {G : va_G} {h0 : HP} (X : hp_X M G h0 "RenamedWordsModel" "size" cX9_size 2 (some .int) [] 2 65) (a0 : Nat) (a1 : Int) (h : HP) : vv M G h0 2 (hp_End M G h0) jI h 0 [(0, LR (some a0)), (1, LI a1)] [] (f_X9_size a0 a1 h) := by
  unfold f_X9_size
  refine vv_aload_n (pc := 0) X (kf := 0) (i := 0) rfl 0 rfl dX9_size_0 ?_
  refine vv_iconst (pc := 1) X dX9_size_1 ?_
  refine vv_putI (pc := 2) (fin := false) X (fun _ z => by cases List.mem_singleton.mp z; exact fl_X9_69_7) (fun z => nomatch z) (fun z => nomatch z) dX9_size_2 (fun h1 => ?_)
  refine vv_aload_n (pc := 5) X (kf := 0) (i := 0) rfl 0 rfl dX9_size_5 ?_
  refine vv_iload_n (pc := 6) X (kf := 1) (i := 1) rfl 1 rfl dX9_size_6 ?_
  refine vv_iconst (pc := 7) X dX9_size_7 ?_
  refine vv_bipush (pc := 8) X (by decide) dX9_size_8 ?_
  refine vv_callI (pc := 10) (rest := [LR (some a0)]) (by rfl) (fun r8 k8 e8 => zz_callS X (m_X9_in (hlM X) _ _ _ _ _ _ e8) q3593 q3594 q164 q3595 nh_X9 rfl (by decide) (by decide) (Nat.le_of_ble_eq_true rfl) dX9_size_10) (fun v2 h3 => ?_)
  refine vv_if_ne (pc := 13) (tgt := 20) X dX9_size_13 rfl ?_ ?_
  · refine vv_iconst (pc := 20) X dX9_size_20 ?_
    exact B_X9_size_21 X _ _ _ _ _
  · refine vv_iconst (pc := 16) X dX9_size_16 ?_
    refine vv_goto (pc := 17) (tgt := 21) X dX9_size_17 rfl ?_
    exact B_X9_size_21 X _ _ _ _ _
theorem m_X9_size {l : Launch} (hl : l.stackTraces = false) {G : va_G} (a0 : Nat) (a1 : Int) (h : HP) : ∀ r hf, f_X9_size a0 a1 h = some (r, hf) → Ct l yX9_size (ws_ yX9_size cX9_size 2 (some .int)) 2 65 G h [.ref a0, .int (iI a1)] (jI r) hf :=
  zz_ofW hl (by decide +kernel) (lv := [(0, LR (some a0)), (1, LI a1)]) (by simp [lv_args, lvL, lvV, zz_rfc, zz_rfs, zz_ci, zz_cr, zz_cj, zz_cf, zz_cd]) (by simp [lg_sl, zz_rfc, zz_ci, zz_cr, zz_cj, zz_cf, zz_cd]) (fun _ X => A_X9_size X a0 a1 h)
-- X9_thrown RenamedWordsModel.thrown()I
noncomputable def f_X9_thrown (a0 : Nat) (h : HP) : Option ((Int) × HP) :=
  (rdI h (some a0) [7] 7).bind fun v1 =>
  some (v1, h)
theorem A_X9_thrown {M : hp_M} {G : va_G} {h0 : HP} (X : hp_X M G h0 "RenamedWordsModel" "thrown" cX9_thrown 1 (some .int) [] 0 0) (a0 : Nat) (h : HP) : vv M G h0 1 (hp_End M G h0) jI h 0 [(0, LR (some a0))] [] (f_X9_thrown a0 h) := by
  unfold f_X9_thrown
  refine vv_aload_n (pc := 0) X (kf := 0) (i := 0) rfl 0 rfl dX9_thrown_0 ?_
  refine vv_getI (pc := 1) X (fun _ z => by cases List.mem_singleton.mp z; exact fl_X9_69_7) dX9_thrown_1 (fun v1 => ?_)
  exact vv_iretI X rfl rfl dX9_thrown_4
theorem m_X9_thrown {l : Launch} (hl : l.stackTraces = false) {G : va_G} (a0 : Nat) (h : HP) : ∀ r hf, f_X9_thrown a0 h = some (r, hf) → Ct l yX9_thrown (ws_ yX9_thrown cX9_thrown 1 (some .int)) 0 0 G h [.ref a0] (jI r) hf :=
  zz_ofW hl (by decide +kernel) (lv := [(0, LR (some a0))]) (by simp [lv_args, lvL, lvV, zz_rfc, zz_rfs, zz_ci, zz_cr, zz_cj, zz_cf, zz_cd]) (by simp [lg_sl, zz_rfc, zz_ci, zz_cr, zz_cj, zz_cf, zz_cd]) (fun _ X => A_X9_thrown X a0 h)
