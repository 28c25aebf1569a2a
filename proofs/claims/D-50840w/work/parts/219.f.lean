/-! STAGE 1c: functions and contracts (printed by gen/mkfuncs.py). -/
set_option maxRecDepth 100000
set_option linter.unusedVariables false
-- X7_at RenamedWords$Window.at(I)I
noncomputable def dsp_Row_at_3_11 (b : Nat) (a1 : Int) (h : HP) : Option ((Int) × HP) := (clsOf h b).bind fun c => if c = 3 then f_X5_at b a1 h else if c = 11 then f_X14_at b a1 h else none
theorem Zdsp_Row_at_3_11 {M : hp_M} {G : va_G} {h0 h : HP} {own nm : String} {cc : ByteArray} {nL F L : Nat} {ret : Option FieldType} {tb : List ExceptionTableEntry} (X : hp_X M G h0 own nm cc nL ret tb F L) {b ix pc : Nat} {a1 : Int} {rest : List Value} (q1 : Cond.methodLink own ix (⟨"RenamedWords$Row", "at", "(I)I"⟩ : MethodName) ∈ lw_all) (d : decode cc pc = .ok (.invokevirtual ix, 3)) (hF : 1 ≤ F) (hL : 29 ≤ L) (hr : rest.length ≤ 8) {r8 : Int} {k8 : HP} (e : dsp_Row_at_3_11 b a1 h = some (r8, k8)) : zz_run M G h0 nL h pc (pc + 3) ([.int (iI a1)].reverse ++ .ref b :: rest) rest (jI r8) k8 := by
  unfold dsp_Row_at_3_11 at e
  obtain ⟨c, hc, e⟩ := Option.bind_eq_some_iff.mp e
  obtain ⟨t9, fs9, g9⟩ := clsOf_some hc
  by_cases z0 : c = 3
  · subst z0
    have e8 : f_X5_at b a1 h = some (r8, k8) := by simpa using e
    exact zz_callU X (m_X5_at (hlM X) _ _ _ _ _ e8) g9 rfl q1 q2633 (va_Decl.abs (X.2.1.2.1 _ q2632 rfl)) (by decide) q2635 q2634 q157 q2636 rfl (by omega) (by omega) hr d
  by_cases z1 : c = 11
  · subst z1
    have e8 : f_X14_at b a1 h = some (r8, k8) := by simpa using e
    exact zz_callU X (m_X14_at (hlM X) _ _ _ _ _ e8) g9 rfl q1 q2633 (va_Decl.abs (X.2.1.2.1 _ q2632 rfl)) (by decide) q2641 q2643 q174 q2642 rfl (by omega) (by omega) hr d
  simp [z0, z1] at e

noncomputable def f_X7_at (a0 : Nat) (a1 : Int) (h : HP) : Option ((Int) × HP) :=
  (rdR h (some a0) [5] 0).bind fun v1 =>
  (rdI h (some a0) [5] 1).bind fun v2 =>
  (v1).bind fun b5 =>
  hb (dsp_Row_at_3_11 b5 (v2 + a1) h) fun v3 h4 =>
  some (v3, h4)
theorem A_X7_at {M : hp_M} {G : va_G} {h0 : HP} (X : hp_X M G h0 "RenamedWords$Window" "at" cX7_at 2 (some .int) [] 1 29) (a0 : Nat) (a1 : Int) (h : HP) : vv M G h0 2 (hp_End M G h0) jI h 0 [(0, LR (some a0)), (1, LI a1)] [] (f_X7_at a0 a1 h) := by
  unfold f_X7_at
  refine vv_aload_n (pc := 0) X (kf := 0) (i := 0) rfl 0 rfl dX7_at_0 ?_
  refine vv_getR (pc := 1) X (fun _ z => by cases List.mem_singleton.mp z; exact fl_X7_7_5) dX7_at_1 (fun v1 => ?_)
  refine vv_aload_n (pc := 4) X (kf := 0) (i := 0) rfl 0 rfl dX7_at_4 ?_
  refine vv_getI (pc := 5) X (fun _ z => by cases List.mem_singleton.mp z; exact fl_X7_13_5) dX7_at_5 (fun v2 => ?_)
  refine vv_iload_n (pc := 8) X (kf := 1) (i := 1) rfl 1 rfl dX7_at_8 ?_
  refine vv_iadd (pc := 9) X dX7_at_9 ?_
  refine vv_bnd (fun b5 e6 => ?_)
  refine vv_callI (pc := 10) (rest := []) (by rw [e6]; rfl) (fun r8 k8 e8 => Zdsp_Row_at_3_11 X q2640 dX7_at_10 (by decide) (by decide) (Nat.le_of_ble_eq_true rfl) e8) (fun v3 h4 => ?_)
  exact vv_iretI X rfl rfl dX7_at_13
theorem m_X7_at {l : Launch} (hl : l.stackTraces = false) {G : va_G} (a0 : Nat) (a1 : Int) (h : HP) : ∀ r hf, f_X7_at a0 a1 h = some (r, hf) → Ct l yX7_at (ws_ yX7_at cX7_at 2 (some .int)) 1 29 G h [.ref a0, .int (iI a1)] (jI r) hf :=
  zz_ofW hl (by decide +kernel) (lv := [(0, LR (some a0)), (1, LI a1)]) (by simp [lv_args, lvL, lvV, zz_rfc, zz_rfs, zz_ci, zz_cr, zz_cj, zz_cf, zz_cd]) (by simp [lg_sl, zz_rfc, zz_ci, zz_cr, zz_cj, zz_cf, zz_cd]) (fun _ X => A_X7_at X a0 a1 h)
-- X4_isFirm_2 RenamedWords$Row.isFirm(II)Z
noncomputable def dsp_Row_at_3_5_11 (b : Nat) (a1 : Int) (h : HP) : Option ((Int) × HP) := (clsOf h b).bind fun c => if c = 3 then f_X5_at b a1 h else if c = 5 then f_X7_at b a1 h else if c = 11 then f_X14_at b a1 h else none
theorem Zdsp_Row_at_3_5_11 {M : hp_M} {G : va_G} {h0 h : HP} {own nm : String} {cc : ByteArray} {nL F L : Nat} {ret : Option FieldType} {tb : List ExceptionTableEntry} (X : hp_X M G h0 own nm cc nL ret tb F L) {b ix pc : Nat} {a1 : Int} {rest : List Value} (q1 : Cond.methodLink own ix (⟨"RenamedWords$Row", "at", "(I)I"⟩ : MethodName) ∈ lw_all) (d : decode cc pc = .ok (.invokevirtual ix, 3)) (hF : 2 ≤ F) (hL : 58 ≤ L) (hr : rest.length ≤ 8) {r8 : Int} {k8 : HP} (e : dsp_Row_at_3_5_11 b a1 h = some (r8, k8)) : zz_run M G h0 nL h pc (pc + 3) ([.int (iI a1)].reverse ++ .ref b :: rest) rest (jI r8) k8 := by
  unfold dsp_Row_at_3_5_11 at e
  obtain ⟨c, hc, e⟩ := Option.bind_eq_some_iff.mp e
  obtain ⟨t9, fs9, g9⟩ := clsOf_some hc
  by_cases z0 : c = 3
  · subst z0
    have e8 : f_X5_at b a1 h = some (r8, k8) := by simpa using e
    exact zz_callU X (m_X5_at (hlM X) _ _ _ _ _ e8) g9 rfl q1 q2633 (va_Decl.abs (X.2.1.2.1 _ q2632 rfl)) (by decide) q2635 q2634 q157 q2636 rfl (by omega) (by omega) hr d
  by_cases z1 : c = 5
  · subst z1
    have e8 : f_X7_at b a1 h = some (r8, k8) := by simpa using e
    exact zz_callU X (m_X7_at (hlM X) _ _ _ _ _ e8) g9 rfl q1 q2633 (va_Decl.abs (X.2.1.2.1 _ q2632 rfl)) (by decide) q2638 q2637 q159 q2639 rfl (by omega) (by omega) hr d
  by_cases z2 : c = 11
  · subst z2
    have e8 : f_X14_at b a1 h = some (r8, k8) := by simpa using e
    exact zz_callU X (m_X14_at (hlM X) _ _ _ _ _ e8) g9 rfl q1 q2633 (va_Decl.abs (X.2.1.2.1 _ q2632 rfl)) (by decide) q2641 q2643 q174 q2642 rfl (by omega) (by omega) hr d
  simp [z0, z1, z2] at e

noncomputable def b_X4_isFirm_2_14 (s0 : Int) (h : HP) : Option ((Int) × HP) :=
  rtZ s0 (some (s0, h))
theorem B_X4_isFirm_2_14 {M : hp_M} {G : va_G} {h0 : HP} (X : hp_X M G h0 "RenamedWords$Row" "isFirm" cX4_isFirm 3 (some .boolean) [] 2 58) (s0 : Int) (h : HP) : vv M G h0 3 (hp_End M G h0) jI h 14 [] [LI s0] (b_X4_isFirm_2_14 s0 h) := by
  unfold b_X4_isFirm_2_14
  exact vv_iretZ X rfl rfl dX4_isFirm_14
noncomputable def f_X4_isFirm_2 (a0 : Nat) (a1 : Int) (a2 : Int) (h : HP) : Option ((Int) × HP) :=
  ((some a0)).bind fun b3 =>
  hb (dsp_Row_at_3_5_11 b3 a1 h) fun v1 h2 =>
  iLE a2 v1
    (b_X4_isFirm_2_14 0 h2)
    (b_X4_isFirm_2_14 1 h2)
theorem A_X4_isFirm_2 {M : hp_M} {G : va_G} {h0 : HP} (X : hp_X M G h0 "RenamedWords$Row" "isFirm" cX4_isFirm 3 (some .boolean) [] 2 58) (a0 : Nat) (a1 : Int) (a2 : Int) (h : HP) : vv M G h0 3 (hp_End M G h0) jI h 0 [(0, LR (some a0)), (1, LI a1), (2, LI a2)] [] (f_X4_isFirm_2 a0 a1 a2 h) := by
  unfold f_X4_isFirm_2
  refine vv_aload_n (pc := 0) X (kf := 0) (i := 0) rfl 0 rfl dX4_isFirm_0 ?_
  refine vv_iload_n (pc := 1) X (kf := 1) (i := 1) rfl 1 rfl dX4_isFirm_1 ?_
  refine vv_bnd (fun b3 e4 => ?_)
  refine vv_callI (pc := 2) (rest := []) (by rw [e4]; rfl) (fun r8 k8 e8 => Zdsp_Row_at_3_5_11 X q2631 dX4_isFirm_2 (by decide) (by decide) (Nat.le_of_ble_eq_true rfl) e8) (fun v1 h2 => ?_)
  refine vv_iload_n (pc := 5) X (kf := 2) (i := 2) rfl 2 rfl dX4_isFirm_5 ?_
  refine vv_icmp_ge (pc := 6) (tgt := 13) X dX4_isFirm_6 rfl ?_ ?_
  · refine vv_iconst (pc := 13) X dX4_isFirm_13 ?_
    exact vv_sub [] (by rfl) (B_X4_isFirm_2_14 X _ _)
  · refine vv_iconst (pc := 9) X dX4_isFirm_9 ?_
    refine vv_goto (pc := 10) (tgt := 14) X dX4_isFirm_10 rfl ?_
    exact vv_sub [] (by rfl) (B_X4_isFirm_2_14 X _ _)
theorem m_X4_isFirm_2 {l : Launch} (hl : l.stackTraces = false) {G : va_G} (a0 : Nat) (a1 : Int) (a2 : Int) (h : HP) : ∀ r hf, f_X4_isFirm_2 a0 a1 a2 h = some (r, hf) → Ct l yX4_isFirm (ws_ yX4_isFirm cX4_isFirm 3 (some .boolean)) 2 58 G h [.ref a0, .int (iI a1), .int (iI a2)] (jI r) hf :=
  zz_ofW hl (by decide +kernel) (lv := [(0, LR (some a0)), (1, LI a1), (2, LI a2)]) (by simp [lv_args, lvL, lvV, zz_rfc, zz_rfs, zz_ci, zz_cr, zz_cj, zz_cf, zz_cd]) (by simp [lg_sl, zz_rfc, zz_ci, zz_cr, zz_cj, zz_cf, zz_cd]) (fun _ X => A_X4_isFirm_2 X a0 a1 a2 h)
-- X5_lays RenamedWords$Text.lays(I)V
noncomputable def b_X5_lays_75 (r28 : Option Nat → Int → Int → HP → Option ((Unit) × HP)) (x0 : Option Nat) (x1 : Int) (x2 : Int) (x3 : Int) (s0 : Int) (s1 : Int) (s2 : Option Nat) (h : HP) : Option ((Unit) × HP) :=
  (astI h .int s2 s1 s0).bind fun h6 =>
  (rdR h6 x0 [3] 2).bind fun v7 =>
  (astI h6 .int v7 x3 x2).bind fun h8 =>
  r28 x0 x1 (x2 + 1) h8
theorem B_X5_lays_75 {M : hp_M} {G : va_G} {h0 : HP} (X : hp_X M G h0 "RenamedWords$Text" "lays" cX5_lays 4 none [] 0 0) (r28 : Option Nat → Int → Int → HP → Option ((Unit) × HP)) (hr28 : ∀ (y0 : Option Nat) (y1 : Int) (y2 : Int) (h : HP), vv M G h0 4 (hp_End M G h0) jV h 28 [(0, LR y0), (1, LI y1), (2, LI y2)] [] (r28 y0 y1 y2 h)) (x0 : Option Nat) (x1 : Int) (x2 : Int) (x3 : Int) (s0 : Int) (s1 : Int) (s2 : Option Nat) (h : HP) : vv M G h0 4 (hp_End M G h0) jV h 75 [(0, LR x0), (1, LI x1), (2, LI x2), (3, LI x3)] [LI s0, LI s1, LR s2] (b_X5_lays_75 r28 x0 x1 x2 x3 s0 s1 s2 h) := by
  unfold b_X5_lays_75
  refine vv_iastore (pc := 75) X dX5_lays_75 (fun h6 => ?_)
  refine vv_aload_n (pc := 76) X (kf := 0) (i := 0) rfl 0 rfl dX5_lays_76 ?_
  refine vv_getR (pc := 77) X (fun _ z => by cases List.mem_singleton.mp z; exact fl_X5_18_3) dX5_lays_77 (fun v7 => ?_)
  refine vv_iload_n (pc := 80) X (kf := 3) (i := 3) rfl 3 rfl dX5_lays_80 ?_
  refine vv_iload_n (pc := 81) X (kf := 2) (i := 2) rfl 2 rfl dX5_lays_81 ?_
  refine vv_iastore (pc := 82) X dX5_lays_82 (fun h8 => ?_)
  refine vv_iinc (pc := 83) (lv' := [(2, LI (x2 + 1)), (0, LR x0), (1, LI x1), (3, LI x3)]) X 2 rfl (by decide) rfl dX5_lays_83 ?_
  refine vv_goto (pc := 86) (tgt := 28) X dX5_lays_86 rfl ?_
  exact vv_sub [1, 2, 0] (by rfl) (hr28 _ _ _ _)
noncomputable def b_X5_lays_63 (r28 : Option Nat → Int → Int → HP → Option ((Unit) × HP)) (x0 : Option Nat) (x1 : Int) (x2 : Int) (x3 : Int) (s0 : Int) (s1 : Option Nat) (h : HP) : Option ((Unit) × HP) :=
  b_X5_lays_75 r28 x0 x1 x2 x3 0 s0 s1 h
theorem B_X5_lays_63 {M : hp_M} {G : va_G} {h0 : HP} (X : hp_X M G h0 "RenamedWords$Text" "lays" cX5_lays 4 none [] 0 0) (r28 : Option Nat → Int → Int → HP → Option ((Unit) × HP)) (hr28 : ∀ (y0 : Option Nat) (y1 : Int) (y2 : Int) (h : HP), vv M G h0 4 (hp_End M G h0) jV h 28 [(0, LR y0), (1, LI y1), (2, LI y2)] [] (r28 y0 y1 y2 h)) (x0 : Option Nat) (x1 : Int) (x2 : Int) (x3 : Int) (s0 : Int) (s1 : Option Nat) (h : HP) : vv M G h0 4 (hp_End M G h0) jV h 63 [(0, LR x0), (1, LI x1), (2, LI x2), (3, LI x3)] [LI s0, LR s1] (b_X5_lays_63 r28 x0 x1 x2 x3 s0 s1 h) := by
  unfold b_X5_lays_63
  refine vv_iconst (pc := 63) X dX5_lays_63 ?_
  refine vv_goto (pc := 64) (tgt := 75) X dX5_lays_64 rfl ?_
  exact B_X5_lays_75 X r28 hr28 _ _ _ _ _ _ _ _
noncomputable def c_X5_lays_28 (r28 : Option Nat → Int → Int → HP → Option ((Unit) × HP)) (x0 : Option Nat) (x1 : Int) (x2 : Int) (h : HP) : Option ((Unit) × HP) :=
  (rdI h x0 [3] 3).bind fun v2 =>
  iLE v2 x2
    (some ((), h))
    ((rdR h x0 [3] 0).bind fun v3 =>
    (aldI h .int v3 x2).bind fun v4 =>
    (rdR h x0 [3] 1).bind fun v5 =>
    iLT v4 x1
      (b_X5_lays_63 r28 x0 x1 x2 v4 x2 v5 h)
      ((rdR h x0 [3] 2).bind fun v9 =>
      (aldI h .int v9 v4).bind fun v10 =>
      iEQ v10 (-1)
        (b_X5_lays_63 r28 x0 x1 x2 v4 x2 v5 h)
        ((rdR h x0 [3] 2).bind fun v11 =>
        (aldI h .int v11 v4).bind fun v12 =>
        b_X5_lays_75 r28 x0 x1 x2 v4 (x2 - v12) x2 v5 h)))
noncomputable def b_X5_lays_28 : Option Nat → Int → Int → HP → Option ((Unit) × HP) := fx (fun _ _ _ _ => none) (c_X5_lays_28) FU
theorem C_X5_lays_28 {M : hp_M} {G : va_G} {h0 : HP} (X : hp_X M G h0 "RenamedWords$Text" "lays" cX5_lays 4 none [] 0 0) (r28 : Option Nat → Int → Int → HP → Option ((Unit) × HP)) (hr28 : ∀ (y0 : Option Nat) (y1 : Int) (y2 : Int) (h : HP), vv M G h0 4 (hp_End M G h0) jV h 28 [(0, LR y0), (1, LI y1), (2, LI y2)] [] (r28 y0 y1 y2 h)) (x0 : Option Nat) (x1 : Int) (x2 : Int) (h : HP) : vv M G h0 4 (hp_End M G h0) jV h 28 [(0, LR x0), (1, LI x1), (2, LI x2)] [] (c_X5_lays_28 r28 x0 x1 x2 h) := by
  unfold c_X5_lays_28
  refine vv_iload_n (pc := 28) X (kf := 2) (i := 2) rfl 2 rfl dX5_lays_28 ?_
  refine vv_aload_n (pc := 29) X (kf := 0) (i := 0) rfl 0 rfl dX5_lays_29 ?_
  refine vv_getI (pc := 30) X (fun _ z => by cases List.mem_singleton.mp z; exact fl_X5_25_3) dX5_lays_30 (fun v2 => ?_)
  refine vv_icmp_ge (pc := 33) (tgt := 89) X dX5_lays_33 rfl ?_ ?_
  · exact vv_vreturn X rfl rfl dX5_lays_89
  · refine vv_aload_n (pc := 36) X (kf := 0) (i := 0) rfl 0 rfl dX5_lays_36 ?_
    refine vv_getR (pc := 37) X (fun _ z => by cases List.mem_singleton.mp z; exact fl_X5_9_3) dX5_lays_37 (fun v3 => ?_)
    refine vv_iload_n (pc := 40) X (kf := 2) (i := 2) rfl 2 rfl dX5_lays_40 ?_
    refine vv_iaload (pc := 41) X dX5_lays_41 (fun v4 => ?_)
    refine vv_istore_n (pc := 42) (lv' := [(3, LI v4), (0, LR x0), (1, LI x1), (2, LI x2)]) X (kf := 3) (i := 3) rfl (by decide) rfl dX5_lays_42 ?_
    refine vv_aload_n (pc := 43) X (kf := 0) (i := 0) rfl 1 rfl dX5_lays_43 ?_
    refine vv_getR (pc := 44) X (fun _ z => by cases List.mem_singleton.mp z; exact fl_X5_15_3) dX5_lays_44 (fun v5 => ?_)
    refine vv_iload_n (pc := 47) X (kf := 2) (i := 2) rfl 3 rfl dX5_lays_47 ?_
    refine vv_iload_n (pc := 48) X (kf := 3) (i := 3) rfl 0 rfl dX5_lays_48 ?_
    refine vv_iload_n (pc := 49) X (kf := 1) (i := 1) rfl 2 rfl dX5_lays_49 ?_
    refine vv_icmp_lt (pc := 50) (tgt := 63) X dX5_lays_50 rfl ?_ ?_
    · exact vv_sub [1, 2, 3, 0] (by rfl) (B_X5_lays_63 X r28 hr28 _ _ _ _ _ _ _)
    · refine vv_aload_n (pc := 53) X (kf := 0) (i := 0) rfl 1 rfl dX5_lays_53 ?_
      refine vv_getR (pc := 54) X (fun _ z => by cases List.mem_singleton.mp z; exact fl_X5_18_3) dX5_lays_54 (fun v9 => ?_)
      refine vv_iload_n (pc := 57) X (kf := 3) (i := 3) rfl 0 rfl dX5_lays_57 ?_
      refine vv_iaload (pc := 58) X dX5_lays_58 (fun v10 => ?_)
      refine vv_iconst (pc := 59) X dX5_lays_59 ?_
      refine vv_icmp_ne (pc := 60) (tgt := 67) X dX5_lays_60 rfl ?_ ?_
      · refine vv_iload_n (pc := 67) X (kf := 2) (i := 2) rfl 3 rfl dX5_lays_67 ?_
        refine vv_aload_n (pc := 68) X (kf := 0) (i := 0) rfl 1 rfl dX5_lays_68 ?_
        refine vv_getR (pc := 69) X (fun _ z => by cases List.mem_singleton.mp z; exact fl_X5_18_3) dX5_lays_69 (fun v11 => ?_)
        refine vv_iload_n (pc := 72) X (kf := 3) (i := 3) rfl 0 rfl dX5_lays_72 ?_
        refine vv_iaload (pc := 73) X dX5_lays_73 (fun v12 => ?_)
        refine vv_isub (pc := 74) X dX5_lays_74 ?_
        exact vv_sub [1, 2, 3, 0] (by rfl) (B_X5_lays_75 X r28 hr28 _ _ _ _ _ _ _ _)
      · exact vv_sub [1, 2, 3, 0] (by rfl) (B_X5_lays_63 X r28 hr28 _ _ _ _ _ _ _)
theorem B_X5_lays_28 {M : hp_M} {G : va_G} {h0 : HP} (X : hp_X M G h0 "RenamedWords$Text" "lays" cX5_lays 4 none [] 0 0) : ∀ (x0 : Option Nat) (x1 : Int) (x2 : Int) (h : HP), vv M G h0 4 (hp_End M G h0) jV h 28 [(0, LR x0), (1, LI x1), (2, LI x2)] [] (b_X5_lays_28 x0 x1 x2 h) := by
  unfold b_X5_lays_28
  generalize FU = n
  induction n with
  | zero => intro x0 x1 x2 h; exact vv_none
  | succ n ih => exact C_X5_lays_28 X _ ih
noncomputable def c_X5_lays_7 (r7 : Option Nat → Int → Int → HP → Option ((Unit) × HP)) (x0 : Option Nat) (x1 : Int) (x2 : Int) (h : HP) : Option ((Unit) × HP) :=
  iLE 26 x2
    (b_X5_lays_28 x0 x1 0 h)
    ((rdR h x0 [3] 2).bind fun v13 =>
    (astI h .int v13 x2 (-1)).bind fun h14 =>
    r7 x0 x1 (x2 + 1) h14)
noncomputable def b_X5_lays_7 : Option Nat → Int → Int → HP → Option ((Unit) × HP) := fx (fun _ _ _ _ => none) (c_X5_lays_7) FU
theorem C_X5_lays_7 {M : hp_M} {G : va_G} {h0 : HP} (X : hp_X M G h0 "RenamedWords$Text" "lays" cX5_lays 4 none [] 0 0) (r7 : Option Nat → Int → Int → HP → Option ((Unit) × HP)) (hr7 : ∀ (y0 : Option Nat) (y1 : Int) (y2 : Int) (h : HP), vv M G h0 4 (hp_End M G h0) jV h 7 [(0, LR y0), (1, LI y1), (2, LI y2)] [] (r7 y0 y1 y2 h)) (x0 : Option Nat) (x1 : Int) (x2 : Int) (h : HP) : vv M G h0 4 (hp_End M G h0) jV h 7 [(0, LR x0), (1, LI x1), (2, LI x2)] [] (c_X5_lays_7 r7 x0 x1 x2 h) := by
  unfold c_X5_lays_7
  refine vv_iload_n (pc := 7) X (kf := 2) (i := 2) rfl 2 rfl dX5_lays_7 ?_
  refine vv_bipush (pc := 8) X (by decide) dX5_lays_8 ?_
  refine vv_icmp_ge (pc := 10) (tgt := 26) X dX5_lays_10 rfl ?_ ?_
  · refine vv_iconst (pc := 26) X dX5_lays_26 ?_
    refine vv_istore_n (pc := 27) (lv' := [(2, LI 0), (0, LR x0), (1, LI x1)]) X (kf := 2) (i := 2) rfl (by decide) rfl dX5_lays_27 ?_
    exact vv_sub [1, 2, 0] (by rfl) (B_X5_lays_28 X _ _ _ _)
  · refine vv_aload_n (pc := 13) X (kf := 0) (i := 0) rfl 0 rfl dX5_lays_13 ?_
    refine vv_getR (pc := 14) X (fun _ z => by cases List.mem_singleton.mp z; exact fl_X5_18_3) dX5_lays_14 (fun v13 => ?_)
    refine vv_iload_n (pc := 17) X (kf := 2) (i := 2) rfl 2 rfl dX5_lays_17 ?_
    refine vv_iconst (pc := 18) X dX5_lays_18 ?_
    refine vv_iastore (pc := 19) X dX5_lays_19 (fun h14 => ?_)
    refine vv_iinc (pc := 20) (lv' := [(2, LI (x2 + 1)), (0, LR x0), (1, LI x1)]) X 2 rfl (by decide) rfl dX5_lays_20 ?_
    refine vv_goto (pc := 23) (tgt := 7) X dX5_lays_23 rfl ?_
    exact vv_sub [1, 2, 0] (by rfl) (hr7 _ _ _ _)
theorem B_X5_lays_7 {M : hp_M} {G : va_G} {h0 : HP} (X : hp_X M G h0 "RenamedWords$Text" "lays" cX5_lays 4 none [] 0 0) : ∀ (x0 : Option Nat) (x1 : Int) (x2 : Int) (h : HP), vv M G h0 4 (hp_End M G h0) jV h 7 [(0, LR x0), (1, LI x1), (2, LI x2)] [] (b_X5_lays_7 x0 x1 x2 h) := by
  unfold b_X5_lays_7
  generalize FU = n
  induction n with
  | zero => intro x0 x1 x2 h; exact vv_none
  | succ n ih => exact C_X5_lays_7 X _ ih
noncomputable def f_X5_lays (a0 : Nat) (a1 : Int) (h : HP) : Option ((Unit) × HP) :=
  (wrI h (some a0) [3] 4 a1).bind fun h1 =>
  b_X5_lays_7 (some a0) a1 0 h1
theorem A_X5_lays {M : hp_M} {G : va_G} {h0 : HP} (X : hp_X M G h0 "RenamedWords$Text" "lays" cX5_lays 4 none [] 0 0) (a0 : Nat) (a1 : Int) (h : HP) : vv M G h0 4 (hp_End M G h0) jV h 0 [(0, LR (some a0)), (1, LI a1)] [] (f_X5_lays a0 a1 h) := by
  unfold f_X5_lays
  refine vv_aload_n (pc := 0) X (kf := 0) (i := 0) rfl 0 rfl dX5_lays_0 ?_
  refine vv_iload_n (pc := 1) X (kf := 1) (i := 1) rfl 1 rfl dX5_lays_1 ?_
  refine vv_putI (pc := 2) (fin := false) X (fun _ z => by cases List.mem_singleton.mp z; exact fl_X5_21_3) (fun z => nomatch z) (fun z => nomatch z) dX5_lays_2 (fun h1 => ?_)
  refine vv_iconst (pc := 5) X dX5_lays_5 ?_
  refine vv_istore_n (pc := 6) (lv' := [(2, LI 0), (0, LR (some a0)), (1, LI a1)]) X (kf := 2) (i := 2) rfl (by decide) rfl dX5_lays_6 ?_
  exact vv_sub [1, 2, 0] (by rfl) (B_X5_lays_7 X _ _ _ _)
theorem m_X5_lays {l : Launch} (hl : l.stackTraces = false) {G : va_G} (a0 : Nat) (a1 : Int) (h : HP) : ∀ r hf, f_X5_lays a0 a1 h = some (r, hf) → Ct l yX5_lays (ws_ yX5_lays cX5_lays 4 none) 0 0 G h [.ref a0, .int (iI a1)] (jV r) hf :=
  zz_ofW hl (by decide +kernel) (lv := [(0, LR (some a0)), (1, LI a1)]) (by simp [lv_args, lvL, lvV, zz_rfc, zz_rfs, zz_ci, zz_cr, zz_cj, zz_cf, zz_cd]) (by simp [lg_sl, zz_rfc, zz_ci, zz_cr, zz_cj, zz_cf, zz_cd]) (fun _ X => A_X5_lays X a0 a1 h)
-- X5_back RenamedWords$Text.back(II)I
noncomputable def b_X5_back_13 (x0 : Option Nat) (x1 : Int) (h : HP) : Option ((Int) × HP) :=
  (rdR h x0 [3] 1).bind fun v2 =>
  (aldI h .int v2 x1).bind fun v3 =>
  some (v3, h)
theorem B_X5_back_13 {M : hp_M} {G : va_G} {h0 : HP} (X : hp_X M G h0 "RenamedWords$Text" "back" cX5_back 3 (some .int) [] 1 31) (x0 : Option Nat) (x1 : Int) (h : HP) : vv M G h0 3 (hp_End M G h0) jI h 13 [(0, LR x0), (1, LI x1)] [] (b_X5_back_13 x0 x1 h) := by
  unfold b_X5_back_13
  refine vv_aload_n (pc := 13) X (kf := 0) (i := 0) rfl 0 rfl dX5_back_13 ?_
  refine vv_getR (pc := 14) X (fun _ z => by cases List.mem_singleton.mp z; exact fl_X5_15_3) dX5_back_14 (fun v2 => ?_)
  refine vv_iload_n (pc := 17) X (kf := 1) (i := 1) rfl 1 rfl dX5_back_17 ?_
  refine vv_iaload (pc := 18) X dX5_back_18 (fun v3 => ?_)
  exact vv_iretI X rfl rfl dX5_back_19
noncomputable def f_X5_back (a0 : Nat) (a1 : Int) (a2 : Int) (h : HP) : Option ((Int) × HP) :=
  (rdI h (some a0) [3] 4).bind fun v1 =>
  iEQ v1 a2
    (b_X5_back_13 (some a0) a1 h)
    ((rcv h (some a0) [3]).bind fun b6 =>
    hb (f_X5_lays b6 a2 h) fun _ h5 =>
    b_X5_back_13 (some a0) a1 h5)
theorem A_X5_back {M : hp_M} {G : va_G} {h0 : HP} (X : hp_X M G h0 "RenamedWords$Text" "back" cX5_back 3 (some .int) [] 1 31) (a0 : Nat) (a1 : Int) (a2 : Int) (h : HP) : vv M G h0 3 (hp_End M G h0) jI h 0 [(0, LR (some a0)), (1, LI a1), (2, LI a2)] [] (f_X5_back a0 a1 a2 h) := by
  unfold f_X5_back
  refine vv_aload_n (pc := 0) X (kf := 0) (i := 0) rfl 0 rfl dX5_back_0 ?_
  refine vv_getI (pc := 1) X (fun _ z => by cases List.mem_singleton.mp z; exact fl_X5_21_3) dX5_back_1 (fun v1 => ?_)
  refine vv_iload_n (pc := 4) X (kf := 2) (i := 2) rfl 2 rfl dX5_back_4 ?_
  refine vv_icmp_eq (pc := 5) (tgt := 13) X dX5_back_5 rfl ?_ ?_
  · exact vv_sub [0, 1] (by rfl) (B_X5_back_13 X _ _ _)
  · refine vv_aload_n (pc := 8) X (kf := 0) (i := 0) rfl 0 rfl dX5_back_8 ?_
    refine vv_iload_n (pc := 9) X (kf := 2) (i := 2) rfl 2 rfl dX5_back_9 ?_
    refine vv_rcv (fun b6 t9 c9 fs9 e7 g9 k9 => ?_)
    cases List.mem_singleton.mp k9
    refine vv_callV (pc := 10) (rest := []) (by rw [e7]; rfl) (fun r8 k8 e8 => zz_callV X (m_X5_lays (hlM X) _ _ _ _ _ e8) g9 rfl rfl q2651 q2653 qs36 q157 q2654 nh_X5 rfl (by decide) (by decide) (Nat.le_of_ble_eq_true rfl) dX5_back_10) (fun v4 h5 => ?_)
    exact vv_sub [0, 1] (by rfl) (B_X5_back_13 X _ _ _)
theorem m_X5_back {l : Launch} (hl : l.stackTraces = false) {G : va_G} (a0 : Nat) (a1 : Int) (a2 : Int) (h : HP) : ∀ r hf, f_X5_back a0 a1 a2 h = some (r, hf) → Ct l yX5_back (ws_ yX5_back cX5_back 3 (some .int)) 1 31 G h [.ref a0, .int (iI a1), .int (iI a2)] (jI r) hf :=
  zz_ofW hl (by decide +kernel) (lv := [(0, LR (some a0)), (1, LI a1), (2, LI a2)]) (by simp [lv_args, lvL, lvV, zz_rfc, zz_rfs, zz_ci, zz_cr, zz_cj, zz_cf, zz_cd]) (by simp [lg_sl, zz_rfc, zz_ci, zz_cr, zz_cj, zz_cf, zz_cd]) (fun _ X => A_X5_back X a0 a1 a2 h)
-- X14_back RenamedWords$Word.back(II)I
noncomputable def c_X14_back_13 (r13 : Option Nat → Int → Int → HP → Option ((Int) × HP)) (x0 : Option Nat) (x1 : Int) (x3 : Int) (h : HP) : Option ((Int) × HP) :=
  iLT x1 x3
    (some (0, h))
    ((rdR h x0 [11] 0).bind fun v5 =>
    (aldI h .int v5 (x1 - x3)).bind fun v6 =>
    (rdR h x0 [11] 0).bind fun v7 =>
    (aldI h .int v7 x1).bind fun v8 =>
    iEQ v6 v8
      (some (x3, h))
      (r13 x0 x1 (x3 + 1) h))
noncomputable def b_X14_back_13 : Option Nat → Int → Int → HP → Option ((Int) × HP) := fx (fun _ _ _ _ => none) (c_X14_back_13) FU
theorem C_X14_back_13 {M : hp_M} {G : va_G} {h0 : HP} (X : hp_X M G h0 "RenamedWords$Word" "back" cX14_back 4 (some .int) [] 3 88) (r13 : Option Nat → Int → Int → HP → Option ((Int) × HP)) (hr13 : ∀ (y0 : Option Nat) (y1 : Int) (y3 : Int) (h : HP), vv M G h0 4 (hp_End M G h0) jI h 13 [(0, LR y0), (1, LI y1), (3, LI y3)] [] (r13 y0 y1 y3 h)) (x0 : Option Nat) (x1 : Int) (x3 : Int) (h : HP) : vv M G h0 4 (hp_End M G h0) jI h 13 [(0, LR x0), (1, LI x1), (3, LI x3)] [] (c_X14_back_13 r13 x0 x1 x3 h) := by
  unfold c_X14_back_13
  refine vv_iload_n (pc := 13) X (kf := 3) (i := 3) rfl 2 rfl dX14_back_13 ?_
  refine vv_iload_n (pc := 14) X (kf := 1) (i := 1) rfl 1 rfl dX14_back_14 ?_
  refine vv_icmp_gt (pc := 15) (tgt := 43) X dX14_back_15 rfl ?_ ?_
  · refine vv_iconst (pc := 43) X dX14_back_43 ?_
    exact vv_iretI X rfl rfl dX14_back_44
  · refine vv_aload_n (pc := 18) X (kf := 0) (i := 0) rfl 0 rfl dX14_back_18 ?_
    refine vv_getR (pc := 19) X (fun _ z => by cases List.mem_singleton.mp z; exact fl_X14_9_11) dX14_back_19 (fun v5 => ?_)
    refine vv_iload_n (pc := 22) X (kf := 1) (i := 1) rfl 1 rfl dX14_back_22 ?_
    refine vv_iload_n (pc := 23) X (kf := 3) (i := 3) rfl 2 rfl dX14_back_23 ?_
    refine vv_isub (pc := 24) X dX14_back_24 ?_
    refine vv_iaload (pc := 25) X dX14_back_25 (fun v6 => ?_)
    refine vv_aload_n (pc := 26) X (kf := 0) (i := 0) rfl 0 rfl dX14_back_26 ?_
    refine vv_getR (pc := 27) X (fun _ z => by cases List.mem_singleton.mp z; exact fl_X14_9_11) dX14_back_27 (fun v7 => ?_)
    refine vv_iload_n (pc := 30) X (kf := 1) (i := 1) rfl 1 rfl dX14_back_30 ?_
    refine vv_iaload (pc := 31) X dX14_back_31 (fun v8 => ?_)
    refine vv_icmp_ne (pc := 32) (tgt := 37) X dX14_back_32 rfl ?_ ?_
    · refine vv_iinc (pc := 37) (lv' := [(3, LI (x3 + 1)), (0, LR x0), (1, LI x1)]) X 2 rfl (by decide) rfl dX14_back_37 ?_
      refine vv_goto (pc := 40) (tgt := 13) X dX14_back_40 rfl ?_
      exact vv_sub [1, 2, 0] (by rfl) (hr13 _ _ _ _)
    · refine vv_iload_n (pc := 35) X (kf := 3) (i := 3) rfl 2 rfl dX14_back_35 ?_
      exact vv_iretI X rfl rfl dX14_back_36
theorem B_X14_back_13 {M : hp_M} {G : va_G} {h0 : HP} (X : hp_X M G h0 "RenamedWords$Word" "back" cX14_back 4 (some .int) [] 3 88) : ∀ (x0 : Option Nat) (x1 : Int) (x3 : Int) (h : HP), vv M G h0 4 (hp_End M G h0) jI h 13 [(0, LR x0), (1, LI x1), (3, LI x3)] [] (b_X14_back_13 x0 x1 x3 h) := by
  unfold b_X14_back_13
  generalize FU = n
  induction n with
  | zero => intro x0 x1 x3 h; exact vv_none
  | succ n ih => exact C_X14_back_13 X _ ih
noncomputable def f_X14_back (a0 : Nat) (a1 : Int) (a2 : Int) (h : HP) : Option ((Int) × HP) :=
  (rcv h (some a0) [11]).bind fun b3 =>
  hb (f_X4_isFirm_2 b3 a1 a2 h) fun v1 h2 =>
  iEQ v1 0
    (b_X14_back_13 (some a0) a1 1 h2)
    (some (0, h2))
theorem A_X14_back {M : hp_M} {G : va_G} {h0 : HP} (X : hp_X M G h0 "RenamedWords$Word" "back" cX14_back 4 (some .int) [] 3 88) (a0 : Nat) (a1 : Int) (a2 : Int) (h : HP) : vv M G h0 4 (hp_End M G h0) jI h 0 [(0, LR (some a0)), (1, LI a1), (2, LI a2)] [] (f_X14_back a0 a1 a2 h) := by
  unfold f_X14_back
  refine vv_aload_n (pc := 0) X (kf := 0) (i := 0) rfl 0 rfl dX14_back_0 ?_
  refine vv_iload_n (pc := 1) X (kf := 1) (i := 1) rfl 1 rfl dX14_back_1 ?_
  refine vv_iload_n (pc := 2) X (kf := 2) (i := 2) rfl 2 rfl dX14_back_2 ?_
  refine vv_rcv (fun b3 t9 c9 fs9 e4 g9 k9 => ?_)
  cases List.mem_singleton.mp k9
  refine vv_callI (pc := 3) (rest := []) (by rw [e4]; rfl) (fun r8 k8 e8 => zz_callU X (m_X4_isFirm_2 (hlM X) _ _ _ _ _ _ e8) g9 rfl q2661 q2662 (va_Decl.of (X.1.2.2.2.2 _ q2625) (X.1.2.2.2.2 _ q2630)) (by decide) q2625 q2664 q156 q2630 rfl (by decide) (by decide) (Nat.le_of_ble_eq_true rfl) dX14_back_3) (fun v1 h2 => ?_)
  refine vv_if_eq (pc := 6) (tgt := 11) X dX14_back_6 rfl ?_ ?_
  · refine vv_iconst (pc := 11) X dX14_back_11 ?_
    refine vv_istore_n (pc := 12) (lv' := [(3, LI 1), (0, LR (some a0)), (1, LI a1), (2, LI a2)]) X (kf := 3) (i := 3) rfl (by decide) rfl dX14_back_12 ?_
    exact vv_sub [1, 2, 0] (by rfl) (B_X14_back_13 X _ _ _ _)
  · refine vv_iconst (pc := 9) X dX14_back_9 ?_
    exact vv_iretI X rfl rfl dX14_back_10
theorem m_X14_back {l : Launch} (hl : l.stackTraces = false) {G : va_G} (a0 : Nat) (a1 : Int) (a2 : Int) (h : HP) : ∀ r hf, f_X14_back a0 a1 a2 h = some (r, hf) → Ct l yX14_back (ws_ yX14_back cX14_back 4 (some .int)) 3 88 G h [.ref a0, .int (iI a1), .int (iI a2)] (jI r) hf :=
  zz_ofW hl (by decide +kernel) (lv := [(0, LR (some a0)), (1, LI a1), (2, LI a2)]) (by simp [lv_args, lvL, lvV, zz_rfc, zz_rfs, zz_ci, zz_cr, zz_cj, zz_cf, zz_cd]) (by simp [lg_sl, zz_rfc, zz_ci, zz_cr, zz_cj, zz_cf, zz_cd]) (fun _ X => A_X14_back X a0 a1 a2 h)
-- X7_back RenamedWords$Window.back(II)I
noncomputable def dsp_Row_back_3_11 (b : Nat) (a1 : Int) (a2 : Int) (h : HP) : Option ((Int) × HP) := (clsOf h b).bind fun c => if c = 3 then f_X5_back b a1 a2 h else if c = 11 then f_X14_back b a1 a2 h else none
theorem Zdsp_Row_back_3_11 {M : hp_M} {G : va_G} {h0 h : HP} {own nm : String} {cc : ByteArray} {nL F L : Nat} {ret : Option FieldType} {tb : List ExceptionTableEntry} (X : hp_X M G h0 own nm cc nL ret tb F L) {b ix pc : Nat} {a1 : Int} {a2 : Int} {rest : List Value} (q1 : Cond.methodLink own ix (⟨"RenamedWords$Row", "back", "(II)I"⟩ : MethodName) ∈ lw_all) (d : decode cc pc = .ok (.invokevirtual ix, 3)) (hF : 4 ≤ F) (hL : 119 ≤ L) (hr : rest.length ≤ 8) {r8 : Int} {k8 : HP} (e : dsp_Row_back_3_11 b a1 a2 h = some (r8, k8)) : zz_run M G h0 nL h pc (pc + 3) ([.int (iI a1), .int (iI a2)].reverse ++ .ref b :: rest) rest (jI r8) k8 := by
  unfold dsp_Row_back_3_11 at e
  obtain ⟨c, hc, e⟩ := Option.bind_eq_some_iff.mp e
  obtain ⟨t9, fs9, g9⟩ := clsOf_some hc
  by_cases z0 : c = 3
  · subst z0
    have e8 : f_X5_back b a1 a2 h = some (r8, k8) := by simpa using e
    exact zz_callU X (m_X5_back (hlM X) _ _ _ _ _ _ e8) g9 rfl q1 q2647 (va_Decl.abs (X.2.1.2.1 _ q2646 rfl)) (by decide) q2649 q2648 q157 q2650 rfl (by omega) (by omega) hr d
  by_cases z1 : c = 11
  · subst z1
    have e8 : f_X14_back b a1 a2 h = some (r8, k8) := by simpa using e
    exact zz_callU X (m_X14_back (hlM X) _ _ _ _ _ _ e8) g9 rfl q1 q2647 (va_Decl.abs (X.2.1.2.1 _ q2646 rfl)) (by decide) q2659 q2665 q174 q2660 rfl (by omega) (by omega) hr d
  simp [z0, z1] at e

noncomputable def b_X7_back_25 (s0 : Int) (h : HP) : Option ((Int) × HP) :=
  some (s0, h)
theorem B_X7_back_25 {M : hp_M} {G : va_G} {h0 : HP} (X : hp_X M G h0 "RenamedWords$Window" "back" cX7_back 4 (some .int) [] 4 119) (s0 : Int) (h : HP) : vv M G h0 4 (hp_End M G h0) jI h 25 [] [LI s0] (b_X7_back_25 s0 h) := by
  unfold b_X7_back_25
  exact vv_iretI X rfl rfl dX7_back_25
noncomputable def f_X7_back (a0 : Nat) (a1 : Int) (a2 : Int) (h : HP) : Option ((Int) × HP) :=
  (rdR h (some a0) [5] 0).bind fun v1 =>
  (rdI h (some a0) [5] 1).bind fun v2 =>
  (v1).bind fun b5 =>
  hb (dsp_Row_back_3_11 b5 (v2 + a1) a2 h) fun v3 h4 =>
  iLT a1 v3
    (b_X7_back_25 0 h4)
    (b_X7_back_25 v3 h4)
theorem A_X7_back {M : hp_M} {G : va_G} {h0 : HP} (X : hp_X M G h0 "RenamedWords$Window" "back" cX7_back 4 (some .int) [] 4 119) (a0 : Nat) (a1 : Int) (a2 : Int) (h : HP) : vv M G h0 4 (hp_End M G h0) jI h 0 [(0, LR (some a0)), (1, LI a1), (2, LI a2)] [] (f_X7_back a0 a1 a2 h) := by
  unfold f_X7_back
  refine vv_aload_n (pc := 0) X (kf := 0) (i := 0) rfl 0 rfl dX7_back_0 ?_
  refine vv_getR (pc := 1) X (fun _ z => by cases List.mem_singleton.mp z; exact fl_X7_7_5) dX7_back_1 (fun v1 => ?_)
  refine vv_aload_n (pc := 4) X (kf := 0) (i := 0) rfl 0 rfl dX7_back_4 ?_
  refine vv_getI (pc := 5) X (fun _ z => by cases List.mem_singleton.mp z; exact fl_X7_13_5) dX7_back_5 (fun v2 => ?_)
  refine vv_iload_n (pc := 8) X (kf := 1) (i := 1) rfl 1 rfl dX7_back_8 ?_
  refine vv_iadd (pc := 9) X dX7_back_9 ?_
  refine vv_iload_n (pc := 10) X (kf := 2) (i := 2) rfl 2 rfl dX7_back_10 ?_
  refine vv_bnd (fun b5 e6 => ?_)
  refine vv_callI (pc := 11) (rest := []) (by rw [e6]; rfl) (fun r8 k8 e8 => Zdsp_Row_back_3_11 X q2658 dX7_back_11 (by decide) (by decide) (Nat.le_of_ble_eq_true rfl) e8) (fun v3 h4 => ?_)
  refine vv_istore_n (pc := 14) (lv' := [(3, LI v3), (0, LR (some a0)), (1, LI a1), (2, LI a2)]) X (kf := 3) (i := 3) rfl (by decide) rfl dX7_back_14 ?_
  refine vv_iload_n (pc := 15) X (kf := 3) (i := 3) rfl 0 rfl dX7_back_15 ?_
  refine vv_iload_n (pc := 16) X (kf := 1) (i := 1) rfl 2 rfl dX7_back_16 ?_
  refine vv_icmp_gt (pc := 17) (tgt := 24) X dX7_back_17 rfl ?_ ?_
  · refine vv_iconst (pc := 24) X dX7_back_24 ?_
    exact vv_sub [] (by rfl) (B_X7_back_25 X _ _)
  · refine vv_iload_n (pc := 20) X (kf := 3) (i := 3) rfl 0 rfl dX7_back_20 ?_
    refine vv_goto (pc := 21) (tgt := 25) X dX7_back_21 rfl ?_
    exact vv_sub [] (by rfl) (B_X7_back_25 X _ _)
theorem m_X7_back {l : Launch} (hl : l.stackTraces = false) {G : va_G} (a0 : Nat) (a1 : Int) (a2 : Int) (h : HP) : ∀ r hf, f_X7_back a0 a1 a2 h = some (r, hf) → Ct l yX7_back (ws_ yX7_back cX7_back 4 (some .int)) 4 119 G h [.ref a0, .int (iI a1), .int (iI a2)] (jI r) hf :=
  zz_ofW hl (by decide +kernel) (lv := [(0, LR (some a0)), (1, LI a1), (2, LI a2)]) (by simp [lv_args, lvL, lvV, zz_rfc, zz_rfs, zz_ci, zz_cr, zz_cj, zz_cf, zz_cd]) (by simp [lg_sl, zz_rfc, zz_ci, zz_cr, zz_cj, zz_cf, zz_cd]) (fun _ X => A_X7_back X a0 a1 a2 h)
-- X1_differsAt RenamedWords.differsAt(LRenamedWords$Row;LRenamedWords$Row;II)I
noncomputable def dsp_Row_back_3_5_11 (b : Nat) (a1 : Int) (a2 : Int) (h : HP) : Option ((Int) × HP) := (clsOf h b).bind fun c => if c = 3 then f_X5_back b a1 a2 h else if c = 5 then f_X7_back b a1 a2 h else if c = 11 then f_X14_back b a1 a2 h else none
theorem Zdsp_Row_back_3_5_11 {M : hp_M} {G : va_G} {h0 h : HP} {own nm : String} {cc : ByteArray} {nL F L : Nat} {ret : Option FieldType} {tb : List ExceptionTableEntry} (X : hp_X M G h0 own nm cc nL ret tb F L) {b ix pc : Nat} {a1 : Int} {a2 : Int} {rest : List Value} (q1 : Cond.methodLink own ix (⟨"RenamedWords$Row", "back", "(II)I"⟩ : MethodName) ∈ lw_all) (d : decode cc pc = .ok (.invokevirtual ix, 3)) (hF : 5 ≤ F) (hL : 150 ≤ L) (hr : rest.length ≤ 8) {r8 : Int} {k8 : HP} (e : dsp_Row_back_3_5_11 b a1 a2 h = some (r8, k8)) : zz_run M G h0 nL h pc (pc + 3) ([.int (iI a1), .int (iI a2)].reverse ++ .ref b :: rest) rest (jI r8) k8 := by
  unfold dsp_Row_back_3_5_11 at e
  obtain ⟨c, hc, e⟩ := Option.bind_eq_some_iff.mp e
  obtain ⟨t9, fs9, g9⟩ := clsOf_some hc
  by_cases z0 : c = 3
  · subst z0
    have e8 : f_X5_back b a1 a2 h = some (r8, k8) := by simpa using e
    exact zz_callU X (m_X5_back (hlM X) _ _ _ _ _ _ e8) g9 rfl q1 q2647 (va_Decl.abs (X.2.1.2.1 _ q2646 rfl)) (by decide) q2649 q2648 q157 q2650 rfl (by omega) (by omega) hr d
  by_cases z1 : c = 5
  · subst z1
    have e8 : f_X7_back b a1 a2 h = some (r8, k8) := by simpa using e
    exact zz_callU X (m_X7_back (hlM X) _ _ _ _ _ _ e8) g9 rfl q1 q2647 (va_Decl.abs (X.2.1.2.1 _ q2646 rfl)) (by decide) q2656 q2655 q159 q2657 rfl (by omega) (by omega) hr d
  by_cases z2 : c = 11
  · subst z2
    have e8 : f_X14_back b a1 a2 h = some (r8, k8) := by simpa using e
    exact zz_callU X (m_X14_back (hlM X) _ _ _ _ _ _ e8) g9 rfl q1 q2647 (va_Decl.abs (X.2.1.2.1 _ q2646 rfl)) (by decide) q2659 q2665 q174 q2660 rfl (by omega) (by omega) hr d
  simp [z0, z1, z2] at e

noncomputable def b_X1_differsAt_76 (r3 : Option Nat → Option Nat → Int → Int → Int → HP → Option ((Int) × HP)) (x0 : Option Nat) (x1 : Option Nat) (x2 : Int) (x3 : Int) (x4 : Int) (h : HP) : Option ((Int) × HP) :=
  r3 x0 x1 x2 x3 (x4 + 1) h
theorem B_X1_differsAt_76 {M : hp_M} {G : va_G} {h0 : HP} (X : hp_X M G h0 "RenamedWords" "differsAt" cX1_differsAt 6 (some .int) [] 5 150) (r3 : Option Nat → Option Nat → Int → Int → Int → HP → Option ((Int) × HP)) (hr3 : ∀ (y0 : Option Nat) (y1 : Option Nat) (y2 : Int) (y3 : Int) (y4 : Int) (h : HP), vv M G h0 6 (hp_End M G h0) jI h 3 [(0, LR y0), (1, LR y1), (2, LI y2), (3, LI y3), (4, LI y4)] [] (r3 y0 y1 y2 y3 y4 h)) (x0 : Option Nat) (x1 : Option Nat) (x2 : Int) (x3 : Int) (x4 : Int) (h : HP) : vv M G h0 6 (hp_End M G h0) jI h 76 [(0, LR x0), (1, LR x1), (2, LI x2), (3, LI x3), (4, LI x4)] [] (b_X1_differsAt_76 r3 x0 x1 x2 x3 x4 h) := by
  unfold b_X1_differsAt_76
  refine vv_iinc (pc := 76) (lv' := [(4, LI (x4 + 1)), (0, LR x0), (1, LR x1), (2, LI x2), (3, LI x3)]) X 4 rfl (by decide) rfl dX1_differsAt_76 ?_
  refine vv_goto (pc := 79) (tgt := 3) X dX1_differsAt_79 rfl ?_
  exact vv_sub [1, 2, 3, 4, 0] (by rfl) (hr3 _ _ _ _ _ _)
noncomputable def b_X1_differsAt_73 (x4 : Int) (h : HP) : Option ((Int) × HP) :=
  some (x4, h)
theorem B_X1_differsAt_73 {M : hp_M} {G : va_G} {h0 : HP} (X : hp_X M G h0 "RenamedWords" "differsAt" cX1_differsAt 6 (some .int) [] 5 150) (x4 : Int) (h : HP) : vv M G h0 6 (hp_End M G h0) jI h 73 [(4, LI x4)] [] (b_X1_differsAt_73 x4 h) := by
  unfold b_X1_differsAt_73
  refine vv_iload (pc := 73) X 0 rfl dX1_differsAt_73 ?_
  exact vv_iretI X rfl rfl dX1_differsAt_75
noncomputable def c_X1_differsAt_3 (r3 : Option Nat → Option Nat → Int → Int → Int → HP → Option ((Int) × HP)) (x0 : Option Nat) (x1 : Option Nat) (x2 : Int) (x3 : Int) (x4 : Int) (h : HP) : Option ((Int) × HP) :=
  iLE x2 x4
    (some (x2, h))
    ((rcv h x0 [3, 5, 11]).bind fun b3 =>
    hb (f_X4_isFirm_2 b3 x4 x3 h) fun v1 h2 =>
    (rcv h2 x1 [3, 5, 11]).bind fun b7 =>
    hb (f_X4_isFirm_2 b7 x4 x3 h2) fun v5 h6 =>
    iEQ v1 v5
      (iEQ v1 0
        ((x0).bind fun b11 =>
        hb (dsp_Row_back_3_5_11 b11 x4 x3 h6) fun v9 h10 =>
        (x1).bind fun b15 =>
        hb (dsp_Row_back_3_5_11 b15 x4 x3 h10) fun v13 h14 =>
        iEQ v9 v13
          (b_X1_differsAt_76 r3 x0 x1 x2 x3 x4 h14)
          (b_X1_differsAt_73 x4 h14))
        ((x0).bind fun b19 =>
        hb (dsp_Row_at_3_5_11 b19 x4 h6) fun v17 h18 =>
        (x1).bind fun b23 =>
        hb (dsp_Row_at_3_5_11 b23 x4 h18) fun v21 h22 =>
        iEQ v17 v21
          (b_X1_differsAt_76 r3 x0 x1 x2 x3 x4 h22)
          (b_X1_differsAt_73 x4 h22)))
      (some (x4, h6)))
noncomputable def b_X1_differsAt_3 : Option Nat → Option Nat → Int → Int → Int → HP → Option ((Int) × HP) := fx (fun _ _ _ _ _ _ => none) (c_X1_differsAt_3) FU
theorem C_X1_differsAt_3 {M : hp_M} {G : va_G} {h0 : HP} (X : hp_X M G h0 "RenamedWords" "differsAt" cX1_differsAt 6 (some .int) [] 5 150) (r3 : Option Nat → Option Nat → Int → Int → Int → HP → Option ((Int) × HP)) (hr3 : ∀ (y0 : Option Nat) (y1 : Option Nat) (y2 : Int) (y3 : Int) (y4 : Int) (h : HP), vv M G h0 6 (hp_End M G h0) jI h 3 [(0, LR y0), (1, LR y1), (2, LI y2), (3, LI y3), (4, LI y4)] [] (r3 y0 y1 y2 y3 y4 h)) (x0 : Option Nat) (x1 : Option Nat) (x2 : Int) (x3 : Int) (x4 : Int) (h : HP) : vv M G h0 6 (hp_End M G h0) jI h 3 [(0, LR x0), (1, LR x1), (2, LI x2), (3, LI x3), (4, LI x4)] [] (c_X1_differsAt_3 r3 x0 x1 x2 x3 x4 h) := by
  unfold c_X1_differsAt_3
  refine vv_iload (pc := 3) X 4 rfl dX1_differsAt_3 ?_
  refine vv_iload_n (pc := 5) X (kf := 2) (i := 2) rfl 2 rfl dX1_differsAt_5 ?_
  refine vv_icmp_ge (pc := 6) (tgt := 82) X dX1_differsAt_6 rfl ?_ ?_
  · refine vv_iload_n (pc := 82) X (kf := 2) (i := 2) rfl 2 rfl dX1_differsAt_82 ?_
    exact vv_iretI X rfl rfl dX1_differsAt_83
  · refine vv_aload_n (pc := 9) X (kf := 0) (i := 0) rfl 0 rfl dX1_differsAt_9 ?_
    refine vv_iload (pc := 10) X 4 rfl dX1_differsAt_10 ?_
    refine vv_iload_n (pc := 12) X (kf := 3) (i := 3) rfl 3 rfl dX1_differsAt_12 ?_
    refine vv_rcv (fun b3 t9 c9 fs9 e4 g9 k9 => ?_)
    refine vv_callI (pc := 13) (stv := [.int (iI x4), .int (iI x3)].reverse ++ .ref b3 :: List.map lvV []) (rest := []) (by rw [e4]; rfl) (fun r8 k8 e8 => by
        rcases List.mem_cons.mp k9 with rfl | k9
        · exact zz_callW X (m_X4_isFirm_2 (hlM X) _ _ _ _ _ _ e8) g9 rfl q2624 q2625 q2627 q156 q2630 nh_X4 rfl (by decide) (by decide) (Nat.le_of_ble_eq_true rfl) dX1_differsAt_13
        rcases List.mem_cons.mp k9 with rfl | k9
        · exact zz_callW X (m_X4_isFirm_2 (hlM X) _ _ _ _ _ _ e8) g9 rfl q2624 q2625 q2628 q156 q2630 nh_X4 rfl (by decide) (by decide) (Nat.le_of_ble_eq_true rfl) dX1_differsAt_13
        cases List.mem_singleton.mp k9
        exact zz_callW X (m_X4_isFirm_2 (hlM X) _ _ _ _ _ _ e8) g9 rfl q2624 q2625 q2629 q156 q2630 nh_X4 rfl (by decide) (by decide) (Nat.le_of_ble_eq_true rfl) dX1_differsAt_13) (fun v1 h2 => ?_)
    refine vv_istore (pc := 16) (lv' := [(5, LI v1), (0, LR x0), (1, LR x1), (2, LI x2), (3, LI x3), (4, LI x4)]) X (by decide) rfl dX1_differsAt_16 ?_
    refine vv_iload (pc := 18) X 0 rfl dX1_differsAt_18 ?_
    refine vv_aload_n (pc := 20) X (kf := 1) (i := 1) rfl 2 rfl dX1_differsAt_20 ?_
    refine vv_iload (pc := 21) X 5 rfl dX1_differsAt_21 ?_
    refine vv_iload_n (pc := 23) X (kf := 3) (i := 3) rfl 4 rfl dX1_differsAt_23 ?_
    refine vv_rcv (fun b7 t9 c9 fs9 e8 g9 k9 => ?_)
    refine vv_callI (pc := 24) (stv := [.int (iI x4), .int (iI x3)].reverse ++ .ref b7 :: List.map lvV [LI v1]) (rest := [LI v1]) (by rw [e8]; rfl) (fun r8 k8 e8 => by
        rcases List.mem_cons.mp k9 with rfl | k9
        · exact zz_callW X (m_X4_isFirm_2 (hlM X) _ _ _ _ _ _ e8) g9 rfl q2624 q2625 q2627 q156 q2630 nh_X4 rfl (by decide) (by decide) (Nat.le_of_ble_eq_true rfl) dX1_differsAt_24
        rcases List.mem_cons.mp k9 with rfl | k9
        · exact zz_callW X (m_X4_isFirm_2 (hlM X) _ _ _ _ _ _ e8) g9 rfl q2624 q2625 q2628 q156 q2630 nh_X4 rfl (by decide) (by decide) (Nat.le_of_ble_eq_true rfl) dX1_differsAt_24
        cases List.mem_singleton.mp k9
        exact zz_callW X (m_X4_isFirm_2 (hlM X) _ _ _ _ _ _ e8) g9 rfl q2624 q2625 q2629 q156 q2630 nh_X4 rfl (by decide) (by decide) (Nat.le_of_ble_eq_true rfl) dX1_differsAt_24) (fun v5 h6 => ?_)
    refine vv_icmp_eq (pc := 27) (tgt := 33) X dX1_differsAt_27 rfl ?_ ?_
    · refine vv_iload (pc := 33) X 0 rfl dX1_differsAt_33 ?_
      refine vv_if_eq (pc := 35) (tgt := 56) X dX1_differsAt_35 rfl ?_ ?_
      · refine vv_aload_n (pc := 56) X (kf := 0) (i := 0) rfl 1 rfl dX1_differsAt_56 ?_
        refine vv_iload (pc := 57) X 5 rfl dX1_differsAt_57 ?_
        refine vv_iload_n (pc := 59) X (kf := 3) (i := 3) rfl 4 rfl dX1_differsAt_59 ?_
        refine vv_bnd (fun b11 e12 => ?_)
        refine vv_callI (pc := 60) (rest := []) (by rw [e12]; rfl) (fun r8 k8 e8 => Zdsp_Row_back_3_5_11 X q2645 dX1_differsAt_60 (by decide) (by decide) (Nat.le_of_ble_eq_true rfl) e8) (fun v9 h10 => ?_)
        refine vv_aload_n (pc := 63) X (kf := 1) (i := 1) rfl 2 rfl dX1_differsAt_63 ?_
        refine vv_iload (pc := 64) X 5 rfl dX1_differsAt_64 ?_
        refine vv_iload_n (pc := 66) X (kf := 3) (i := 3) rfl 4 rfl dX1_differsAt_66 ?_
        refine vv_bnd (fun b15 e16 => ?_)
        refine vv_callI (pc := 67) (rest := [LI v9]) (by rw [e16]; rfl) (fun r8 k8 e8 => Zdsp_Row_back_3_5_11 X q2645 dX1_differsAt_67 (by decide) (by decide) (Nat.le_of_ble_eq_true rfl) e8) (fun v13 h14 => ?_)
        refine vv_icmp_eq (pc := 70) (tgt := 76) X dX1_differsAt_70 rfl ?_ ?_
        · exact vv_sub [1, 2, 3, 4, 5] (by rfl) (B_X1_differsAt_76 X r3 hr3 _ _ _ _ _ _)
        · exact vv_sub [5] (by rfl) (B_X1_differsAt_73 X _ _)
      · refine vv_aload_n (pc := 38) X (kf := 0) (i := 0) rfl 1 rfl dX1_differsAt_38 ?_
        refine vv_iload (pc := 39) X 5 rfl dX1_differsAt_39 ?_
        refine vv_bnd (fun b19 e20 => ?_)
        refine vv_callI (pc := 41) (rest := []) (by rw [e20]; rfl) (fun r8 k8 e8 => Zdsp_Row_at_3_5_11 X q2644 dX1_differsAt_41 (by decide) (by decide) (Nat.le_of_ble_eq_true rfl) e8) (fun v17 h18 => ?_)
        refine vv_aload_n (pc := 44) X (kf := 1) (i := 1) rfl 2 rfl dX1_differsAt_44 ?_
        refine vv_iload (pc := 45) X 5 rfl dX1_differsAt_45 ?_
        refine vv_bnd (fun b23 e24 => ?_)
        refine vv_callI (pc := 47) (rest := [LI v17]) (by rw [e24]; rfl) (fun r8 k8 e8 => Zdsp_Row_at_3_5_11 X q2644 dX1_differsAt_47 (by decide) (by decide) (Nat.le_of_ble_eq_true rfl) e8) (fun v21 h22 => ?_)
        refine vv_icmp_eq (pc := 50) (tgt := 76) X dX1_differsAt_50 rfl ?_ ?_
        · exact vv_sub [1, 2, 3, 4, 5] (by rfl) (B_X1_differsAt_76 X r3 hr3 _ _ _ _ _ _)
        · refine vv_goto (pc := 53) (tgt := 73) X dX1_differsAt_53 rfl ?_
          exact vv_sub [5] (by rfl) (B_X1_differsAt_73 X _ _)
    · refine vv_iload (pc := 30) X 5 rfl dX1_differsAt_30 ?_
      exact vv_iretI X rfl rfl dX1_differsAt_32
theorem B_X1_differsAt_3 {M : hp_M} {G : va_G} {h0 : HP} (X : hp_X M G h0 "RenamedWords" "differsAt" cX1_differsAt 6 (some .int) [] 5 150) : ∀ (x0 : Option Nat) (x1 : Option Nat) (x2 : Int) (x3 : Int) (x4 : Int) (h : HP), vv M G h0 6 (hp_End M G h0) jI h 3 [(0, LR x0), (1, LR x1), (2, LI x2), (3, LI x3), (4, LI x4)] [] (b_X1_differsAt_3 x0 x1 x2 x3 x4 h) := by
  unfold b_X1_differsAt_3
  generalize FU = n
  induction n with
  | zero => intro x0 x1 x2 x3 x4 h; exact vv_none
  | succ n ih => exact C_X1_differsAt_3 X _ ih
noncomputable def f_X1_differsAt (a1 : Option Nat) (a2 : Option Nat) (a3 : Int) (a4 : Int) (h : HP) : Option ((Int) × HP) :=
  b_X1_differsAt_3 a1 a2 a3 a4 0 h
theorem A_X1_differsAt {M : hp_M} {G : va_G} {h0 : HP} (X : hp_X M G h0 "RenamedWords" "differsAt" cX1_differsAt 6 (some .int) [] 5 150) (a1 : Option Nat) (a2 : Option Nat) (a3 : Int) (a4 : Int) (h : HP) : vv M G h0 6 (hp_End M G h0) jI h 0 [(0, LR a1), (1, LR a2), (2, LI a3), (3, LI a4)] [] (f_X1_differsAt a1 a2 a3 a4 h) := by
  unfold f_X1_differsAt
  refine vv_iconst (pc := 0) X dX1_differsAt_0 ?_
  refine vv_istore (pc := 1) (lv' := [(4, LI 0), (0, LR a1), (1, LR a2), (2, LI a3), (3, LI a4)]) X (by decide) rfl dX1_differsAt_1 ?_
  exact vv_sub [1, 2, 3, 4, 0] (by rfl) (B_X1_differsAt_3 X _ _ _ _ _ _)
theorem m_X1_differsAt {l : Launch} (hl : l.stackTraces = false) {G : va_G} (a1 : Option Nat) (a2 : Option Nat) (a3 : Int) (a4 : Int) (h : HP) : ∀ r hf, f_X1_differsAt a1 a2 a3 a4 h = some (r, hf) → Ct l yX1_differsAt (ws_ yX1_differsAt cX1_differsAt 6 (some .int)) 5 150 G h [va_rf a1, va_rf a2, .int (iI a3), .int (iI a4)] (jI r) hf :=
  zz_ofW hl (by decide +kernel) (lv := [(0, LR a1), (1, LR a2), (2, LI a3), (3, LI a4)]) (by simp [lv_args, lvL, lvV, zz_rfc, zz_rfs, zz_ci, zz_cr, zz_cj, zz_cf, zz_cd]) (by simp [lg_sl, zz_rfc, zz_ci, zz_cr, zz_cj, zz_cf, zz_cd]) (fun _ X => A_X1_differsAt X a1 a2 a3 a4 h)
-- X1_match RenamedWords.match(LRenamedWords$Row;LRenamedWords$Row;I)Z
noncomputable def dsp_Row_many_3_5_11 (b : Nat)  (h : HP) : Option ((Int) × HP) := (clsOf h b).bind fun c => if c = 3 then f_X5_many b  h else if c = 5 then f_X7_many b  h else if c = 11 then f_X14_many b  h else none
theorem Zdsp_Row_many_3_5_11 {M : hp_M} {G : va_G} {h0 h : HP} {own nm : String} {cc : ByteArray} {nL F L : Nat} {ret : Option FieldType} {tb : List ExceptionTableEntry} (X : hp_X M G h0 own nm cc nL ret tb F L) {b ix pc : Nat}  {rest : List Value} (q1 : Cond.methodLink own ix (⟨"RenamedWords$Row", "many", "()I"⟩ : MethodName) ∈ lw_all) (d : decode cc pc = .ok (.invokevirtual ix, 3)) (hF : 1 ≤ F) (hL : 28 ≤ L) (hr : rest.length ≤ 8) {r8 : Int} {k8 : HP} (e : dsp_Row_many_3_5_11 b  h = some (r8, k8)) : zz_run M G h0 nL h pc (pc + 3) ([].reverse ++ .ref b :: rest) rest (jI r8) k8 := by
  unfold dsp_Row_many_3_5_11 at e
  obtain ⟨c, hc, e⟩ := Option.bind_eq_some_iff.mp e
  obtain ⟨t9, fs9, g9⟩ := clsOf_some hc
  by_cases z0 : c = 3
  · subst z0
    have e8 : f_X5_many b  h = some (r8, k8) := by simpa using e
    exact zz_callU X (m_X5_many (hlM X) _ _ _ _ e8) g9 rfl q1 q2613 (va_Decl.abs (X.2.1.2.1 _ q2612 rfl)) (by decide) q2615 q2614 q157 q2616 rfl (by omega) (by omega) hr d
  by_cases z1 : c = 5
  · subst z1
    have e8 : f_X7_many b  h = some (r8, k8) := by simpa using e
    exact zz_callU X (m_X7_many (hlM X) _ _ _ _ e8) g9 rfl q1 q2613 (va_Decl.abs (X.2.1.2.1 _ q2612 rfl)) (by decide) q2618 q2617 q159 q2619 rfl (by omega) (by omega) hr d
  by_cases z2 : c = 11
  · subst z2
    have e8 : f_X14_many b  h = some (r8, k8) := by simpa using e
    exact zz_callU X (m_X14_many (hlM X) _ _ _ _ e8) g9 rfl q1 q2613 (va_Decl.abs (X.2.1.2.1 _ q2612 rfl)) (by decide) q2601 q2620 q174 q2603 rfl (by omega) (by omega) hr d
  simp [z0, z1, z2] at e

noncomputable def b_X1_match_33 (s0 : Int) (h : HP) : Option ((Int) × HP) :=
  rtZ s0 (some (s0, h))
theorem B_X1_match_33 {M : hp_M} {G : va_G} {h0 : HP} (X : hp_X M G h0 "RenamedWords" "match" cX1_match 3 (some .boolean) [] 6 183) (s0 : Int) (h : HP) : vv M G h0 3 (hp_End M G h0) jI h 33 [] [LI s0] (b_X1_match_33 s0 h) := by
  unfold b_X1_match_33
  exact vv_iretZ X rfl rfl dX1_match_33
noncomputable def b_X1_match_32 (h : HP) : Option ((Int) × HP) :=
  b_X1_match_33 0 h
theorem B_X1_match_32 {M : hp_M} {G : va_G} {h0 : HP} (X : hp_X M G h0 "RenamedWords" "match" cX1_match 3 (some .boolean) [] 6 183) (h : HP) : vv M G h0 3 (hp_End M G h0) jI h 32 [] [] (b_X1_match_32 h) := by
  unfold b_X1_match_32
  refine vv_iconst (pc := 32) X dX1_match_32 ?_
  exact B_X1_match_33 X _ _
noncomputable def f_X1_match (a1 : Option Nat) (a2 : Option Nat) (a3 : Int) (h : HP) : Option ((Int) × HP) :=
  (a1).bind fun b3 =>
  hb (dsp_Row_many_3_5_11 b3 h) fun v1 h2 =>
  (a2).bind fun b7 =>
  hb (dsp_Row_many_3_5_11 b7 h2) fun v5 h6 =>
  iEQ v1 v5
    ((a1).bind fun b11 =>
    hb (dsp_Row_many_3_5_11 b11 h6) fun v9 h10 =>
    hb (f_X1_differsAt a1 a2 v9 a3 h10) fun v13 h14 =>
    (a1).bind fun b17 =>
    hb (dsp_Row_many_3_5_11 b17 h14) fun v15 h16 =>
    iEQ v13 v15
      (b_X1_match_33 1 h16)
      (b_X1_match_32 h16))
    (b_X1_match_32 h6)
theorem A_X1_match {M : hp_M} {G : va_G} {h0 : HP} (X : hp_X M G h0 "RenamedWords" "match" cX1_match 3 (some .boolean) [] 6 183) (a1 : Option Nat) (a2 : Option Nat) (a3 : Int) (h : HP) : vv M G h0 3 (hp_End M G h0) jI h 0 [(0, LR a1), (1, LR a2), (2, LI a3)] [] (f_X1_match a1 a2 a3 h) := by
  unfold f_X1_match
  refine vv_aload_n (pc := 0) X (kf := 0) (i := 0) rfl 0 rfl dX1_match_0 ?_
  refine vv_bnd (fun b3 e4 => ?_)
  refine vv_callI (pc := 1) (rest := []) (by rw [e4]; rfl) (fun r8 k8 e8 => Zdsp_Row_many_3_5_11 X q2611 dX1_match_1 (by decide) (by decide) (Nat.le_of_ble_eq_true rfl) e8) (fun v1 h2 => ?_)
  refine vv_aload_n (pc := 4) X (kf := 1) (i := 1) rfl 1 rfl dX1_match_4 ?_
  refine vv_bnd (fun b7 e8 => ?_)
  refine vv_callI (pc := 5) (rest := [LI v1]) (by rw [e8]; rfl) (fun r8 k8 e8 => Zdsp_Row_many_3_5_11 X q2611 dX1_match_5 (by decide) (by decide) (Nat.le_of_ble_eq_true rfl) e8) (fun v5 h6 => ?_)
  refine vv_icmp_ne (pc := 8) (tgt := 32) X dX1_match_8 rfl ?_ ?_
  · exact vv_sub [] (by rfl) (B_X1_match_32 X _)
  · refine vv_aload_n (pc := 11) X (kf := 0) (i := 0) rfl 0 rfl dX1_match_11 ?_
    refine vv_aload_n (pc := 12) X (kf := 1) (i := 1) rfl 1 rfl dX1_match_12 ?_
    refine vv_aload_n (pc := 13) X (kf := 0) (i := 0) rfl 0 rfl dX1_match_13 ?_
    refine vv_bnd (fun b11 e12 => ?_)
    refine vv_callI (pc := 14) (rest := [LR a2, LR a1]) (by rw [e12]; rfl) (fun r8 k8 e8 => Zdsp_Row_many_3_5_11 X q2611 dX1_match_14 (by decide) (by decide) (Nat.le_of_ble_eq_true rfl) e8) (fun v9 h10 => ?_)
    refine vv_iload_n (pc := 17) X (kf := 2) (i := 2) rfl 2 rfl dX1_match_17 ?_
    refine vv_callI (pc := 18) (rest := []) (by rfl) (fun r8 k8 e8 => zz_callS X (m_X1_differsAt (hlM X) _ _ _ _ _ _ _ e8) q2621 q2622 q132 q2623 nh_X1 rfl (by decide) (by decide) (Nat.le_of_ble_eq_true rfl) dX1_match_18) (fun v13 h14 => ?_)
    refine vv_aload_n (pc := 21) X (kf := 0) (i := 0) rfl 0 rfl dX1_match_21 ?_
    refine vv_bnd (fun b17 e18 => ?_)
    refine vv_callI (pc := 22) (rest := [LI v13]) (by rw [e18]; rfl) (fun r8 k8 e8 => Zdsp_Row_many_3_5_11 X q2611 dX1_match_22 (by decide) (by decide) (Nat.le_of_ble_eq_true rfl) e8) (fun v15 h16 => ?_)
    refine vv_icmp_ne (pc := 25) (tgt := 32) X dX1_match_25 rfl ?_ ?_
    · exact vv_sub [] (by rfl) (B_X1_match_32 X _)
    · refine vv_iconst (pc := 28) X dX1_match_28 ?_
      refine vv_goto (pc := 29) (tgt := 33) X dX1_match_29 rfl ?_
      exact vv_sub [] (by rfl) (B_X1_match_33 X _ _)
theorem m_X1_match {l : Launch} (hl : l.stackTraces = false) {G : va_G} (a1 : Option Nat) (a2 : Option Nat) (a3 : Int) (h : HP) : ∀ r hf, f_X1_match a1 a2 a3 h = some (r, hf) → Ct l yX1_match (ws_ yX1_match cX1_match 3 (some .boolean)) 6 183 G h [va_rf a1, va_rf a2, .int (iI a3)] (jI r) hf :=
  zz_ofW hl (by decide +kernel) (lv := [(0, LR a1), (1, LR a2), (2, LI a3)]) (by simp [lv_args, lvL, lvV, zz_rfc, zz_rfs, zz_ci, zz_cr, zz_cj, zz_cf, zz_cd]) (by simp [lg_sl, zz_rfc, zz_ci, zz_cr, zz_cj, zz_cf, zz_cd]) (fun _ X => A_X1_match X a1 a2 a3 h)
-- X2_isAt RenamedWords$Desk.isAt(II)Z
noncomputable def b_X2_isAt_55 (s0 : Int) (h : HP) : Option ((Int) × HP) :=
  rtZ s0 (some (s0, h))
theorem B_X2_isAt_55 {M : hp_M} {G : va_G} {h0 : HP} (X : hp_X M G h0 "RenamedWords$Desk" "isAt" cX2_isAt 4 (some .boolean) [] 7 213) (s0 : Int) (h : HP) : vv M G h0 4 (hp_End M G h0) jI h 55 [] [LI s0] (b_X2_isAt_55 s0 h) := by
  unfold b_X2_isAt_55
  exact vv_iretZ X rfl rfl dX2_isAt_55
noncomputable def b_X2_isAt_54 (h : HP) : Option ((Int) × HP) :=
  b_X2_isAt_55 0 h
theorem B_X2_isAt_54 {M : hp_M} {G : va_G} {h0 : HP} (X : hp_X M G h0 "RenamedWords$Desk" "isAt" cX2_isAt 4 (some .boolean) [] 7 213) (h : HP) : vv M G h0 4 (hp_End M G h0) jI h 54 [] [] (b_X2_isAt_54 h) := by
  unfold b_X2_isAt_54
  refine vv_iconst (pc := 54) X dX2_isAt_54 ?_
  exact B_X2_isAt_55 X _ _
noncomputable def f_X2_isAt (a0 : Nat) (a1 : Int) (a2 : Int) (h : HP) : Option ((Int) × HP) :=
  (rdR h (some a0) [1] 2).bind fun v1 =>
  (aldR h "RenamedWords$Word" v1 a1).bind fun v2 =>
  (rcv h v2 [11]).bind fun b5 =>
  hb (f_X14_many b5 h) fun v3 h4 =>
  (rdR h4 (some a0) [1] 0).bind fun v7 =>
  (rdI h4 v7 [3] 3).bind fun v8 =>
  iLT v8 (a2 + v3)
    (b_X2_isAt_54 h4)
    ((rdR h4 (some a0) [1] 5).bind fun v9 =>
    (rdR h4 (some a0) [1] 0).bind fun v10 =>
    (rcv h4 v2 [11]).bind fun b13 =>
    hb (f_X14_many b13 h4) fun v11 h12 =>
    (rcv h12 v9 [5]).bind fun b17 =>
    hb (f_X7_lays b17 v10 a2 v11 h12) fun v15 h16 =>
    (rdI h16 (some a0) [1] 7).bind fun v19 =>
    hb (f_X1_match v2 v15 v19 h16) fun v20 h21 =>
    iEQ v20 0
      (b_X2_isAt_54 h21)
      (b_X2_isAt_55 1 h21))
theorem A_X2_isAt {M : hp_M} {G : va_G} {h0 : HP} (X : hp_X M G h0 "RenamedWords$Desk" "isAt" cX2_isAt 4 (some .boolean) [] 7 213) (a0 : Nat) (a1 : Int) (a2 : Int) (h : HP) : vv M G h0 4 (hp_End M G h0) jI h 0 [(0, LR (some a0)), (1, LI a1), (2, LI a2)] [] (f_X2_isAt a0 a1 a2 h) := by
  unfold f_X2_isAt
  refine vv_aload_n (pc := 0) X (kf := 0) (i := 0) rfl 0 rfl dX2_isAt_0 ?_
  refine vv_getR (pc := 1) X (fun _ z => by cases List.mem_singleton.mp z; exact fl_X2_20_1) dX2_isAt_1 (fun v1 => ?_)
  refine vv_iload_n (pc := 4) X (kf := 1) (i := 1) rfl 1 rfl dX2_isAt_4 ?_
  refine vv_aaload (pc := 5) X dX2_isAt_5 (fun v2 => ?_)
  refine vv_astore_n (pc := 6) (lv' := [(3, LR v2), (0, LR (some a0)), (1, LI a1), (2, LI a2)]) X (kf := 3) (i := 3) rfl (by decide) rfl dX2_isAt_6 ?_
  refine vv_iload_n (pc := 7) X (kf := 2) (i := 2) rfl 3 rfl dX2_isAt_7 ?_
  refine vv_aload_n (pc := 8) X (kf := 3) (i := 3) rfl 0 rfl dX2_isAt_8 ?_
  refine vv_rcv (fun b5 t9 c9 fs9 e6 g9 k9 => ?_)
  cases List.mem_singleton.mp k9
  refine vv_callI (pc := 9) (rest := [LI a2]) (by rw [e6]; rfl) (fun r8 k8 e8 => zz_callV X (m_X14_many (hlM X) _ _ _ _ e8) g9 rfl rfl q2600 q2601 q2602 q174 q2603 nh_X14 rfl (by decide) (by decide) (Nat.le_of_ble_eq_true rfl) dX2_isAt_9) (fun v3 h4 => ?_)
  refine vv_iadd (pc := 12) X dX2_isAt_12 ?_
  refine vv_aload_n (pc := 13) X (kf := 0) (i := 0) rfl 1 rfl dX2_isAt_13 ?_
  refine vv_getR (pc := 14) X (fun _ z => by cases List.mem_singleton.mp z; exact fl_X2_12_1) dX2_isAt_14 (fun v7 => ?_)
  refine vv_getI (pc := 17) X (fun _ z => by cases List.mem_singleton.mp z; exact fl_X2_123_3) dX2_isAt_17 (fun v8 => ?_)
  refine vv_icmp_gt (pc := 20) (tgt := 54) X dX2_isAt_20 rfl ?_ ?_
  · exact vv_sub [] (by rfl) (B_X2_isAt_54 X _)
  · refine vv_aload_n (pc := 23) X (kf := 3) (i := 3) rfl 0 rfl dX2_isAt_23 ?_
    refine vv_aload_n (pc := 24) X (kf := 0) (i := 0) rfl 1 rfl dX2_isAt_24 ?_
    refine vv_getR (pc := 25) X (fun _ z => by cases List.mem_singleton.mp z; exact fl_X2_38_1) dX2_isAt_25 (fun v9 => ?_)
    refine vv_aload_n (pc := 28) X (kf := 0) (i := 0) rfl 1 rfl dX2_isAt_28 ?_
    refine vv_getR (pc := 29) X (fun _ z => by cases List.mem_singleton.mp z; exact fl_X2_12_1) dX2_isAt_29 (fun v10 => ?_)
    refine vv_iload_n (pc := 32) X (kf := 2) (i := 2) rfl 3 rfl dX2_isAt_32 ?_
    refine vv_aload_n (pc := 33) X (kf := 3) (i := 3) rfl 0 rfl dX2_isAt_33 ?_
    refine vv_rcv (fun b13 t9 c9 fs9 e14 g9 k9 => ?_)
    cases List.mem_singleton.mp k9
    refine vv_callI (pc := 34) (rest := [LI a2, LR v10, LR v9, LR v2]) (by rw [e14]; rfl) (fun r8 k8 e8 => zz_callV X (m_X14_many (hlM X) _ _ _ _ e8) g9 rfl rfl q2600 q2601 q2602 q174 q2603 nh_X14 rfl (by decide) (by decide) (Nat.le_of_ble_eq_true rfl) dX2_isAt_34) (fun v11 h12 => ?_)
    refine vv_rcv (fun b17 t9 c9 fs9 e18 g9 k9 => ?_)
    cases List.mem_singleton.mp k9
    refine vv_callR (pc := 37) (rest := [LR v2]) (by rw [e18]; rfl) (fun r8 k8 e8 => zz_callV X (m_X7_lays (hlM X) _ _ _ _ _ _ _ e8) g9 rfl rfl q2604 q2605 q2606 q159 q2607 nh_X7 rfl (by decide) (by decide) (Nat.le_of_ble_eq_true rfl) dX2_isAt_37) (fun v15 h16 => ?_)
    refine vv_aload_n (pc := 40) X (kf := 0) (i := 0) rfl 1 rfl dX2_isAt_40 ?_
    refine vv_getI (pc := 41) X (fun _ z => by cases List.mem_singleton.mp z; exact fl_X2_108_1) dX2_isAt_41 (fun v19 => ?_)
    refine vv_callI (pc := 44) (rest := []) (by rfl) (fun r8 k8 e8 => zz_callSN X (m_X1_match (hlM X) _ _ _ _ _ _ e8) q2608 q2609 q132 q2610 nh_X1 rfl (by decide) (by decide) (Nat.le_of_ble_eq_true rfl) dX2_isAt_44) (fun v20 h21 => ?_)
    refine vv_if_eq (pc := 47) (tgt := 54) X dX2_isAt_47 rfl ?_ ?_
    · exact vv_sub [] (by rfl) (B_X2_isAt_54 X _)
    · refine vv_iconst (pc := 50) X dX2_isAt_50 ?_
      refine vv_goto (pc := 51) (tgt := 55) X dX2_isAt_51 rfl ?_
      exact vv_sub [] (by rfl) (B_X2_isAt_55 X _ _)
theorem m_X2_isAt {l : Launch} (hl : l.stackTraces = false) {G : va_G} (a0 : Nat) (a1 : Int) (a2 : Int) (h : HP) : ∀ r hf, f_X2_isAt a0 a1 a2 h = some (r, hf) → Ct l yX2_isAt (ws_ yX2_isAt cX2_isAt 4 (some .boolean)) 7 213 G h [.ref a0, .int (iI a1), .int (iI a2)] (jI r) hf :=
  zz_ofW hl (by decide +kernel) (lv := [(0, LR (some a0)), (1, LI a1), (2, LI a2)]) (by simp [lv_args, lvL, lvV, zz_rfc, zz_rfs, zz_ci, zz_cr, zz_cj, zz_cf, zz_cd]) (by simp [lg_sl, zz_rfc, zz_ci, zz_cr, zz_cj, zz_cf, zz_cd]) (fun _ X => A_X2_isAt X a0 a1 a2 h)
