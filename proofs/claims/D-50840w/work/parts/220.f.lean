/-! STAGE 1c: functions and contracts (printed by gen/mkfuncs.py). -/
set_option maxRecDepth 100000
set_option linter.unusedVariables false
-- X6_of RenamedWords$Marks.of(II)LRenamedWords$Mark;
noncomputable def b_X6_of_27 (r5 : Int → Int → Option Nat → HP → Option ((Option Nat) × HP)) (x1 : Int) (x2 : Int) (x3 : Option Nat) (h : HP) : Option ((Option Nat) × HP) :=
  (rdR h x3 [22] 2).bind fun v3 =>
  r5 x1 x2 v3 h
theorem B_X6_of_27 {M : hp_M} {G : va_G} {h0 : HP} (X : hp_X M G h0 "RenamedWords$Marks" "of" cX6_of 4 (some (.object "RenamedWords$Mark")) [] 0 0) (r5 : Int → Int → Option Nat → HP → Option ((Option Nat) × HP)) (hr5 : ∀ (y1 : Int) (y2 : Int) (y3 : Option Nat) (h : HP), vv M G h0 4 (hp_End M G h0) jR h 5 [(1, LI y1), (2, LI y2), (3, LR y3)] [] (r5 y1 y2 y3 h)) (x1 : Int) (x2 : Int) (x3 : Option Nat) (h : HP) : vv M G h0 4 (hp_End M G h0) jR h 27 [(1, LI x1), (2, LI x2), (3, LR x3)] [] (b_X6_of_27 r5 x1 x2 x3 h) := by
  unfold b_X6_of_27
  refine vv_aload_n (pc := 27) X (kf := 3) (i := 3) rfl 2 rfl dX6_of_27 ?_
  refine vv_getR (pc := 28) X (fun _ z => by cases List.mem_singleton.mp z; exact fl_X6_16_22) dX6_of_28 (fun v3 => ?_)
  refine vv_astore_n (pc := 31) (lv' := [(3, LR v3), (1, LI x1), (2, LI x2)]) X (kf := 3) (i := 3) rfl (by decide) rfl dX6_of_31 ?_
  refine vv_goto (pc := 32) (tgt := 5) X dX6_of_32 rfl ?_
  exact vv_sub [1, 2, 0] (by rfl) (hr5 _ _ _ _)
noncomputable def c_X6_of_5 (r5 : Int → Int → Option Nat → HP → Option ((Option Nat) × HP)) (x1 : Int) (x2 : Int) (x3 : Option Nat) (h : HP) : Option ((Option Nat) × HP) :=
  rNU x3
    (some (none, h))
    ((rdI h x3 [22] 0).bind fun v2 =>
    iEQ v2 x1
      ((rdI h x3 [22] 1).bind fun v4 =>
      iEQ v4 x2
        (some (x3, h))
        (b_X6_of_27 r5 x1 x2 x3 h))
      (b_X6_of_27 r5 x1 x2 x3 h))
noncomputable def b_X6_of_5 : Int → Int → Option Nat → HP → Option ((Option Nat) × HP) := fx (fun _ _ _ _ => none) (c_X6_of_5) FU
theorem C_X6_of_5 {M : hp_M} {G : va_G} {h0 : HP} (X : hp_X M G h0 "RenamedWords$Marks" "of" cX6_of 4 (some (.object "RenamedWords$Mark")) [] 0 0) (r5 : Int → Int → Option Nat → HP → Option ((Option Nat) × HP)) (hr5 : ∀ (y1 : Int) (y2 : Int) (y3 : Option Nat) (h : HP), vv M G h0 4 (hp_End M G h0) jR h 5 [(1, LI y1), (2, LI y2), (3, LR y3)] [] (r5 y1 y2 y3 h)) (x1 : Int) (x2 : Int) (x3 : Option Nat) (h : HP) : vv M G h0 4 (hp_End M G h0) jR h 5 [(1, LI x1), (2, LI x2), (3, LR x3)] [] (c_X6_of_5 r5 x1 x2 x3 h) := by
  unfold c_X6_of_5
  refine vv_aload_n (pc := 5) X (kf := 3) (i := 3) rfl 2 rfl dX6_of_5 ?_
  refine vv_ifnull (pc := 6) (tgt := 35) X dX6_of_6 rfl ?_ ?_
  · refine vv_null (pc := 35) X dX6_of_35 ?_
    exact vv_aretO X rfl rfl dX6_of_36
  · refine vv_aload_n (pc := 9) X (kf := 3) (i := 3) rfl 2 rfl dX6_of_9 ?_
    refine vv_getI (pc := 10) X (fun _ z => by cases List.mem_singleton.mp z; exact fl_X6_43_22) dX6_of_10 (fun v2 => ?_)
    refine vv_iload_n (pc := 13) X (kf := 1) (i := 1) rfl 0 rfl dX6_of_13 ?_
    refine vv_icmp_ne (pc := 14) (tgt := 27) X dX6_of_14 rfl ?_ ?_
    · exact B_X6_of_27 X r5 hr5 _ _ _ _
    · refine vv_aload_n (pc := 17) X (kf := 3) (i := 3) rfl 2 rfl dX6_of_17 ?_
      refine vv_getI (pc := 18) X (fun _ z => by cases List.mem_singleton.mp z; exact fl_X6_46_22) dX6_of_18 (fun v4 => ?_)
      refine vv_iload_n (pc := 21) X (kf := 2) (i := 2) rfl 1 rfl dX6_of_21 ?_
      refine vv_icmp_ne (pc := 22) (tgt := 27) X dX6_of_22 rfl ?_ ?_
      · exact B_X6_of_27 X r5 hr5 _ _ _ _
      · refine vv_aload_n (pc := 25) X (kf := 3) (i := 3) rfl 2 rfl dX6_of_25 ?_
        exact vv_aretO X rfl rfl dX6_of_26
theorem B_X6_of_5 {M : hp_M} {G : va_G} {h0 : HP} (X : hp_X M G h0 "RenamedWords$Marks" "of" cX6_of 4 (some (.object "RenamedWords$Mark")) [] 0 0) : ∀ (x1 : Int) (x2 : Int) (x3 : Option Nat) (h : HP), vv M G h0 4 (hp_End M G h0) jR h 5 [(1, LI x1), (2, LI x2), (3, LR x3)] [] (b_X6_of_5 x1 x2 x3 h) := by
  unfold b_X6_of_5
  generalize FU = n
  induction n with
  | zero => intro x1 x2 x3 h; exact vv_none
  | succ n ih => exact C_X6_of_5 X _ ih
noncomputable def f_X6_of (a0 : Nat) (a1 : Int) (a2 : Int) (h : HP) : Option ((Option Nat) × HP) :=
  (rdR h (some a0) [4] 0).bind fun v1 =>
  b_X6_of_5 a1 a2 v1 h
theorem A_X6_of {M : hp_M} {G : va_G} {h0 : HP} (X : hp_X M G h0 "RenamedWords$Marks" "of" cX6_of 4 (some (.object "RenamedWords$Mark")) [] 0 0) (a0 : Nat) (a1 : Int) (a2 : Int) (h : HP) : vv M G h0 4 (hp_End M G h0) jR h 0 [(0, LR (some a0)), (1, LI a1), (2, LI a2)] [] (f_X6_of a0 a1 a2 h) := by
  unfold f_X6_of
  refine vv_aload_n (pc := 0) X (kf := 0) (i := 0) rfl 0 rfl dX6_of_0 ?_
  refine vv_getR (pc := 1) X (fun _ z => by cases List.mem_singleton.mp z; exact fl_X6_7_4) dX6_of_1 (fun v1 => ?_)
  refine vv_astore_n (pc := 4) (lv' := [(3, LR v1), (0, LR (some a0)), (1, LI a1), (2, LI a2)]) X (kf := 3) (i := 3) rfl (by decide) rfl dX6_of_4 ?_
  exact vv_sub [2, 3, 0] (by rfl) (B_X6_of_5 X _ _ _ _)
theorem m_X6_of {l : Launch} (hl : l.stackTraces = false) {G : va_G} (a0 : Nat) (a1 : Int) (a2 : Int) (h : HP) : ∀ r hf, f_X6_of a0 a1 a2 h = some (r, hf) → Ct l yX6_of (ws_ yX6_of cX6_of 4 (some (.object "RenamedWords$Mark"))) 0 0 G h [.ref a0, .int (iI a1), .int (iI a2)] (jR r) hf :=
  zz_ofW hl (by decide +kernel) (lv := [(0, LR (some a0)), (1, LI a1), (2, LI a2)]) (by simp [lv_args, lvL, lvV, zz_rfc, zz_rfs, zz_ci, zz_cr, zz_cj, zz_cf, zz_cd]) (by simp [lg_sl, zz_rfc, zz_ci, zz_cr, zz_cj, zz_cf, zz_cd]) (fun _ X => A_X6_of X a0 a1 a2 h)
-- X26_remove RenamedWords$Marks$1.remove()V
noncomputable def b_X26_remove_65 (x0 : Option Nat) (h : HP) : Option ((Unit) × HP) :=
  (wrR h x0 [21] 1 none).bind fun h7 =>
  (rdR h7 x0 [21] 3).bind fun v8 =>
  (rdI h7 v8 [4] 2).bind fun v9 =>
  (wrI h7 v8 [4] 2 (v9 - 1)).bind fun h10 =>
  some ((), h10)
theorem B_X26_remove_65 {M : hp_M} {G : va_G} {h0 : HP} (X : hp_X M G h0 "RenamedWords$Marks$1" "remove" cX26_remove 1 none [] 0 0) (x0 : Option Nat) (h : HP) : vv M G h0 1 (hp_End M G h0) jV h 65 [(0, LR x0)] [] (b_X26_remove_65 x0 h) := by
  unfold b_X26_remove_65
  refine vv_aload_n (pc := 65) X (kf := 0) (i := 0) rfl 0 rfl dX26_remove_65 ?_
  refine vv_null (pc := 66) X dX26_remove_66 ?_
  refine vv_putR (pc := 67) (ty9 := (.object "RenamedWords$Mark")) (fin := false) X (fun _ z => by cases List.mem_singleton.mp z; exact fl_X26_25_21) (fun z => nomatch z) (fun z => nomatch z) (by decide +kernel) rfl dX26_remove_67 (fun h7 => ?_)
  refine vv_aload_n (pc := 70) X (kf := 0) (i := 0) rfl 0 rfl dX26_remove_70 ?_
  refine vv_getR (pc := 71) X (fun _ z => by cases List.mem_singleton.mp z; exact fl_X26_1_21) dX26_remove_71 (fun v8 => ?_)
  refine vv_dup (pc := 74) X rfl dX26_remove_74 ?_
  refine vv_getI (pc := 75) X (fun _ z => by cases List.mem_singleton.mp z; exact fl_X26_40_4) dX26_remove_75 (fun v9 => ?_)
  refine vv_iconst (pc := 78) X dX26_remove_78 ?_
  refine vv_isub (pc := 79) X dX26_remove_79 ?_
  refine vv_putI (pc := 80) (fin := false) X (fun _ z => by cases List.mem_singleton.mp z; exact fl_X26_40_4) (fun z => nomatch z) (fun z => nomatch z) dX26_remove_80 (fun h10 => ?_)
  exact vv_vreturn X rfl rfl dX26_remove_83
noncomputable def b_X26_remove_47 (x0 : Option Nat) (h : HP) : Option ((Unit) × HP) :=
  (rdR h x0 [21] 2).bind fun v6 =>
  rNU v6
    ((rdR h x0 [21] 3).bind fun v11 =>
    (rdR h x0 [21] 0).bind fun v12 =>
    (wrR h v11 [4] 1 v12).bind fun h13 =>
    b_X26_remove_65 x0 h13)
    (b_X26_remove_65 x0 h)
theorem B_X26_remove_47 {M : hp_M} {G : va_G} {h0 : HP} (X : hp_X M G h0 "RenamedWords$Marks$1" "remove" cX26_remove 1 none [] 0 0) (x0 : Option Nat) (h : HP) : vv M G h0 1 (hp_End M G h0) jV h 47 [(0, LR x0)] [] (b_X26_remove_47 x0 h) := by
  unfold b_X26_remove_47
  refine vv_aload_n (pc := 47) X (kf := 0) (i := 0) rfl 0 rfl dX26_remove_47 ?_
  refine vv_getR (pc := 48) X (fun _ z => by cases List.mem_singleton.mp z; exact fl_X26_19_21) dX26_remove_48 (fun v6 => ?_)
  refine vv_ifnonnull (pc := 51) (tgt := 65) X dX26_remove_51 rfl ?_ ?_
  · exact B_X26_remove_65 X _ _
  · refine vv_aload_n (pc := 54) X (kf := 0) (i := 0) rfl 0 rfl dX26_remove_54 ?_
    refine vv_getR (pc := 55) X (fun _ z => by cases List.mem_singleton.mp z; exact fl_X26_1_21) dX26_remove_55 (fun v11 => ?_)
    refine vv_aload_n (pc := 58) X (kf := 0) (i := 0) rfl 0 rfl dX26_remove_58 ?_
    refine vv_getR (pc := 59) X (fun _ z => by cases List.mem_singleton.mp z; exact fl_X26_28_21) dX26_remove_59 (fun v12 => ?_)
    refine vv_putR (pc := 62) (ty9 := (.object "RenamedWords$Mark")) (fin := false) X (fun _ z => by cases List.mem_singleton.mp z; exact fl_X26_37_4) (fun z => nomatch z) (fun z => nomatch z) (by decide +kernel) rfl dX26_remove_62 (fun h13 => ?_)
    exact B_X26_remove_65 X _ _
noncomputable def f_X26_remove (a0 : Nat) (h : HP) : Option ((Unit) × HP) :=
  (rdR h (some a0) [21] 1).bind fun v1 =>
  rNU v1
    (none)
    ((rdR h (some a0) [21] 0).bind fun v2 =>
    rNU v2
      ((rdR h (some a0) [21] 3).bind fun v14 =>
      (rdR h (some a0) [21] 2).bind fun v15 =>
      (wrR h v14 [4] 0 v15).bind fun h16 =>
      b_X26_remove_47 (some a0) h16)
      ((rdR h (some a0) [21] 0).bind fun v3 =>
      (rdR h (some a0) [21] 2).bind fun v4 =>
      (wrR h v3 [22] 2 v4).bind fun h5 =>
      b_X26_remove_47 (some a0) h5))
theorem A_X26_remove {M : hp_M} {G : va_G} {h0 : HP} (X : hp_X M G h0 "RenamedWords$Marks$1" "remove" cX26_remove 1 none [] 0 0) (a0 : Nat) (h : HP) : vv M G h0 1 (hp_End M G h0) jV h 0 [(0, LR (some a0))] [] (f_X26_remove a0 h) := by
  unfold f_X26_remove
  refine vv_aload_n (pc := 0) X (kf := 0) (i := 0) rfl 0 rfl dX26_remove_0 ?_
  refine vv_getR (pc := 1) X (fun _ z => by cases List.mem_singleton.mp z; exact fl_X26_25_21) dX26_remove_1 (fun v1 => ?_)
  refine vv_ifnonnull (pc := 4) (tgt := 15) X dX26_remove_4 rfl ?_ ?_
  · refine vv_aload_n (pc := 15) X (kf := 0) (i := 0) rfl 0 rfl dX26_remove_15 ?_
    refine vv_getR (pc := 16) X (fun _ z => by cases List.mem_singleton.mp z; exact fl_X26_28_21) dX26_remove_16 (fun v2 => ?_)
    refine vv_ifnonnull (pc := 19) (tgt := 36) X dX26_remove_19 rfl ?_ ?_
    · refine vv_aload_n (pc := 36) X (kf := 0) (i := 0) rfl 0 rfl dX26_remove_36 ?_
      refine vv_getR (pc := 37) X (fun _ z => by cases List.mem_singleton.mp z; exact fl_X26_28_21) dX26_remove_37 (fun v3 => ?_)
      refine vv_aload_n (pc := 40) X (kf := 0) (i := 0) rfl 0 rfl dX26_remove_40 ?_
      refine vv_getR (pc := 41) X (fun _ z => by cases List.mem_singleton.mp z; exact fl_X26_19_21) dX26_remove_41 (fun v4 => ?_)
      refine vv_putR (pc := 44) (ty9 := (.object "RenamedWords$Mark")) (fin := false) X (fun _ z => by cases List.mem_singleton.mp z; exact fl_X26_31_22) (fun z => nomatch z) (fun z => nomatch z) (by decide +kernel) rfl dX26_remove_44 (fun h5 => ?_)
      exact B_X26_remove_47 X _ _
    · refine vv_aload_n (pc := 22) X (kf := 0) (i := 0) rfl 0 rfl dX26_remove_22 ?_
      refine vv_getR (pc := 23) X (fun _ z => by cases List.mem_singleton.mp z; exact fl_X26_1_21) dX26_remove_23 (fun v14 => ?_)
      refine vv_aload_n (pc := 26) X (kf := 0) (i := 0) rfl 0 rfl dX26_remove_26 ?_
      refine vv_getR (pc := 27) X (fun _ z => by cases List.mem_singleton.mp z; exact fl_X26_19_21) dX26_remove_27 (fun v15 => ?_)
      refine vv_putR (pc := 30) (ty9 := (.object "RenamedWords$Mark")) (fin := false) X (fun _ z => by cases List.mem_singleton.mp z; exact fl_X26_13_4) (fun z => nomatch z) (fun z => nomatch z) (by decide +kernel) rfl dX26_remove_30 (fun h16 => ?_)
      refine vv_goto (pc := 33) (tgt := 47) X dX26_remove_33 rfl ?_
      exact B_X26_remove_47 X _ _
  · exact vv_none
theorem m_X26_remove {l : Launch} (hl : l.stackTraces = false) {G : va_G} (a0 : Nat) (h : HP) : ∀ r hf, f_X26_remove a0 h = some (r, hf) → Ct l yX26_remove (ws_ yX26_remove cX26_remove 1 none) 0 0 G h [.ref a0] (jV r) hf :=
  zz_ofW hl (by decide +kernel) (lv := [(0, LR (some a0))]) (by simp [lv_args, lvL, lvV, zz_rfc, zz_rfs, zz_ci, zz_cr, zz_cj, zz_cf, zz_cd]) (by simp [lg_sl, zz_rfc, zz_ci, zz_cr, zz_cj, zz_cf, zz_cd]) (fun _ X => A_X26_remove X a0 h)
-- X2_cleans RenamedWords$Desk.cleans()V
noncomputable def b_X2_cleans_64 (r8 : Option Nat → Option Nat → HP → Option ((Unit) × HP)) (x0 : Option Nat) (x1 : Option Nat) (h : HP) : Option ((Unit) × HP) :=
  (rcv h x1 [21]).bind fun b22 =>
  hb (f_X26_remove b22 h) fun _ h21 =>
  (rdR h21 x0 [1] 4).bind fun v24 =>
  (aldI h21 .int v24 4).bind fun v25 =>
  (astI h21 .int v24 4 (v25 + 1)).bind fun h26 =>
  r8 x0 x1 h26
theorem B_X2_cleans_64 {M : hp_M} {G : va_G} {h0 : HP} (X : hp_X M G h0 "RenamedWords$Desk" "cleans" cX2_cleans 3 none [] 8 244) (r8 : Option Nat → Option Nat → HP → Option ((Unit) × HP)) (hr8 : ∀ (y0 : Option Nat) (y1 : Option Nat) (h : HP), vv M G h0 3 (hp_End M G h0) jV h 8 [(0, LR y0), (1, LR y1)] [] (r8 y0 y1 h)) (x0 : Option Nat) (x1 : Option Nat) (h : HP) : vv M G h0 3 (hp_End M G h0) jV h 64 [(0, LR x0), (1, LR x1)] [] (b_X2_cleans_64 r8 x0 x1 h) := by
  unfold b_X2_cleans_64
  refine vv_aload_n (pc := 64) X (kf := 1) (i := 1) rfl 1 rfl dX2_cleans_64 ?_
  refine vv_rcv (fun b22 t9 c9 fs9 e23 g9 k9 => ?_)
  cases List.mem_singleton.mp k9
  refine vv_callV (pc := 65) (rest := []) (by rw [e23]; rfl) (fun r8 k8 e8 => zz_callF X (m_X26_remove (hlM X) _ _ _ _ e8) g9 rfl q2671 (List.mem_of_getElem? (i := 7) rfl) q2676 q2674 q191 q2678 nh_xjava_util_Iterator rfl (by decide) (by decide) (Nat.le_of_ble_eq_true rfl) dX2_cleans_65) (fun v20 h21 => ?_)
  refine vv_aload_n (pc := 70) X (kf := 0) (i := 0) rfl 0 rfl dX2_cleans_70 ?_
  refine vv_getR (pc := 71) X (fun _ z => by cases List.mem_singleton.mp z; exact fl_X2_31_1) dX2_cleans_71 (fun v24 => ?_)
  refine vv_iconst (pc := 74) X dX2_cleans_74 ?_
  refine vv_dup2 (pc := 75) X rfl rfl dX2_cleans_75 ?_
  refine vv_iaload (pc := 76) X dX2_cleans_76 (fun v25 => ?_)
  refine vv_iconst (pc := 77) X dX2_cleans_77 ?_
  refine vv_iadd (pc := 78) X dX2_cleans_78 ?_
  refine vv_iastore (pc := 79) X dX2_cleans_79 (fun h26 => ?_)
  refine vv_goto (pc := 80) (tgt := 8) X dX2_cleans_80 rfl ?_
  exact hr8 _ _ _
noncomputable def c_X2_cleans_8 (r8 : Option Nat → Option Nat → HP → Option ((Unit) × HP)) (x0 : Option Nat) (x1 : Option Nat) (h : HP) : Option ((Unit) × HP) :=
  (rcv h x1 [21]).bind fun b8 =>
  hb (f_X26_hasNext b8 h) fun v6 h7 =>
  iEQ v6 0
    (some ((), h7))
    ((rcv h7 x1 [21]).bind fun b12 =>
    hb (f_X26_next b12 h7) fun v10 h11 =>
    (chk h11 v10 [22]).bind fun _ =>
    (rdI h11 v10 [22] 0).bind fun v14 =>
    (rdI h11 v10 [22] 1).bind fun v15 =>
    (rcv h11 x0 [1]).bind fun b18 =>
    hb (f_X2_isAt b18 v14 v15 h11) fun v16 h17 =>
    iEQ v16 0
      (b_X2_cleans_64 r8 x0 x1 h17)
      ((rdR h17 x0 [1] 3).bind fun v27 =>
      (rdI h17 v10 [22] 0).bind fun v28 =>
      (rdI h17 v10 [22] 1).bind fun v29 =>
      (rcv h17 v27 [4]).bind fun b32 =>
      hb (f_X6_of b32 v28 v29 h17) fun v30 h31 =>
      rEQ v30 v10
        (r8 x0 x1 h31)
        (b_X2_cleans_64 r8 x0 x1 h31)))
noncomputable def b_X2_cleans_8 : Option Nat → Option Nat → HP → Option ((Unit) × HP) := fx (fun _ _ _ => none) (c_X2_cleans_8) FU
theorem C_X2_cleans_8 {M : hp_M} {G : va_G} {h0 : HP} (X : hp_X M G h0 "RenamedWords$Desk" "cleans" cX2_cleans 3 none [] 8 244) (r8 : Option Nat → Option Nat → HP → Option ((Unit) × HP)) (hr8 : ∀ (y0 : Option Nat) (y1 : Option Nat) (h : HP), vv M G h0 3 (hp_End M G h0) jV h 8 [(0, LR y0), (1, LR y1)] [] (r8 y0 y1 h)) (x0 : Option Nat) (x1 : Option Nat) (h : HP) : vv M G h0 3 (hp_End M G h0) jV h 8 [(0, LR x0), (1, LR x1)] [] (c_X2_cleans_8 r8 x0 x1 h) := by
  unfold c_X2_cleans_8
  refine vv_aload_n (pc := 8) X (kf := 1) (i := 1) rfl 1 rfl dX2_cleans_8 ?_
  refine vv_rcv (fun b8 t9 c9 fs9 e9 g9 k9 => ?_)
  cases List.mem_singleton.mp k9
  refine vv_callI (pc := 9) (rest := []) (by rw [e9]; rfl) (fun r8 k8 e8 => zz_callF X (m_X26_hasNext (hlM X) _ _ _ _ e8) g9 rfl q2171 (List.mem_of_getElem? (i := 5) rfl) q2177 q2175 q191 q2179 nh_xjava_util_Iterator rfl (by decide) (by decide) (Nat.le_of_ble_eq_true rfl) dX2_cleans_9) (fun v6 h7 => ?_)
  refine vv_if_eq (pc := 14) (tgt := 83) X dX2_cleans_14 rfl ?_ ?_
  · exact vv_vreturn X rfl rfl dX2_cleans_83
  · refine vv_aload_n (pc := 17) X (kf := 1) (i := 1) rfl 1 rfl dX2_cleans_17 ?_
    refine vv_rcv (fun b12 t9 c9 fs9 e13 g9 k9 => ?_)
    cases List.mem_singleton.mp k9
    refine vv_callR (pc := 18) (rest := []) (by rw [e13]; rfl) (fun r8 k8 e8 => zz_callF X (m_X26_next (hlM X) _ _ _ _ e8) g9 rfl q2204 (List.mem_of_getElem? (i := 6) rfl) q2209 q2207 q191 q2211 nh_xjava_util_Iterator rfl (by decide) (by decide) (Nat.le_of_ble_eq_true rfl) dX2_cleans_18) (fun v10 h11 => ?_)
    refine vv_checkcast (pc := 23) X ⟨q2378, (fun _ z => by cases List.mem_singleton.mp z; exact ⟨_, rfl, Or.inl rfl⟩)⟩ dX2_cleans_23 ?_
    refine vv_astore_n (pc := 26) (lv' := [(2, LR v10), (0, LR x0), (1, LR x1)]) X (kf := 2) (i := 2) rfl (by decide) rfl dX2_cleans_26 ?_
    refine vv_aload_n (pc := 27) X (kf := 0) (i := 0) rfl 1 rfl dX2_cleans_27 ?_
    refine vv_aload_n (pc := 28) X (kf := 2) (i := 2) rfl 0 rfl dX2_cleans_28 ?_
    refine vv_getI (pc := 29) X (fun _ z => by cases List.mem_singleton.mp z; exact fl_X2_94_22) dX2_cleans_29 (fun v14 => ?_)
    refine vv_aload_n (pc := 32) X (kf := 2) (i := 2) rfl 0 rfl dX2_cleans_32 ?_
    refine vv_getI (pc := 33) X (fun _ z => by cases List.mem_singleton.mp z; exact fl_X2_98_22) dX2_cleans_33 (fun v15 => ?_)
    refine vv_rcv (fun b18 t9 c9 fs9 e19 g9 k9 => ?_)
    cases List.mem_singleton.mp k9
    refine vv_callI (pc := 36) (rest := []) (by rw [e19]; rfl) (fun r8 k8 e8 => zz_callV X (m_X2_isAt (hlM X) _ _ _ _ _ _ e8) g9 rfl rfl q2596 q2597 q2598 q133 q2599 nh_X2 rfl (by decide) (by decide) (Nat.le_of_ble_eq_true rfl) dX2_cleans_36) (fun v16 h17 => ?_)
    refine vv_if_eq (pc := 39) (tgt := 64) X dX2_cleans_39 rfl ?_ ?_
    · exact vv_sub [1, 2] (by rfl) (B_X2_cleans_64 X r8 hr8 _ _ _)
    · refine vv_aload_n (pc := 42) X (kf := 0) (i := 0) rfl 1 rfl dX2_cleans_42 ?_
      refine vv_getR (pc := 43) X (fun _ z => by cases List.mem_singleton.mp z; exact fl_X2_27_1) dX2_cleans_43 (fun v27 => ?_)
      refine vv_aload_n (pc := 46) X (kf := 2) (i := 2) rfl 0 rfl dX2_cleans_46 ?_
      refine vv_getI (pc := 47) X (fun _ z => by cases List.mem_singleton.mp z; exact fl_X2_94_22) dX2_cleans_47 (fun v28 => ?_)
      refine vv_aload_n (pc := 50) X (kf := 2) (i := 2) rfl 0 rfl dX2_cleans_50 ?_
      refine vv_getI (pc := 51) X (fun _ z => by cases List.mem_singleton.mp z; exact fl_X2_98_22) dX2_cleans_51 (fun v29 => ?_)
      refine vv_rcv (fun b32 t9 c9 fs9 e33 g9 k9 => ?_)
      cases List.mem_singleton.mp k9
      refine vv_callR (pc := 54) (rest := []) (by rw [e33]; rfl) (fun r8 k8 e8 => zz_callV X (m_X6_of (hlM X) _ _ _ _ _ _ e8) g9 rfl rfl q2666 q2667 q2668 q158 q2669 nh_X6 rfl (by decide) (by decide) (Nat.le_of_ble_eq_true rfl) dX2_cleans_54) (fun v30 h31 => ?_)
      refine vv_aload_n (pc := 57) X (kf := 2) (i := 2) rfl 0 rfl dX2_cleans_57 ?_
      refine vv_acmp_ne (pc := 58) (tgt := 64) X dX2_cleans_58 rfl ?_ ?_
      · exact vv_sub [1, 2] (by rfl) (B_X2_cleans_64 X r8 hr8 _ _ _)
      · refine vv_goto (pc := 61) (tgt := 8) X dX2_cleans_61 rfl ?_
        exact vv_sub [1, 2] (by rfl) (hr8 _ _ _)
theorem B_X2_cleans_8 {M : hp_M} {G : va_G} {h0 : HP} (X : hp_X M G h0 "RenamedWords$Desk" "cleans" cX2_cleans 3 none [] 8 244) : ∀ (x0 : Option Nat) (x1 : Option Nat) (h : HP), vv M G h0 3 (hp_End M G h0) jV h 8 [(0, LR x0), (1, LR x1)] [] (b_X2_cleans_8 x0 x1 h) := by
  unfold b_X2_cleans_8
  generalize FU = n
  induction n with
  | zero => intro x0 x1 h; exact vv_none
  | succ n ih => exact C_X2_cleans_8 X _ ih
noncomputable def f_X2_cleans (a0 : Nat) (h : HP) : Option ((Unit) × HP) :=
  (rdR h (some a0) [1] 3).bind fun v1 =>
  (rcv h v1 [4]).bind fun b4 =>
  hb (f_X6_iterator b4 h) fun v2 h3 =>
  b_X2_cleans_8 (some a0) v2 h3
theorem A_X2_cleans {M : hp_M} {G : va_G} {h0 : HP} (X : hp_X M G h0 "RenamedWords$Desk" "cleans" cX2_cleans 3 none [] 8 244) (a0 : Nat) (h : HP) : vv M G h0 3 (hp_End M G h0) jV h 0 [(0, LR (some a0))] [] (f_X2_cleans a0 h) := by
  unfold f_X2_cleans
  refine vv_aload_n (pc := 0) X (kf := 0) (i := 0) rfl 0 rfl dX2_cleans_0 ?_
  refine vv_getR (pc := 1) X (fun _ z => by cases List.mem_singleton.mp z; exact fl_X2_27_1) dX2_cleans_1 (fun v1 => ?_)
  refine vv_rcv (fun b4 t9 c9 fs9 e5 g9 k9 => ?_)
  cases List.mem_singleton.mp k9
  refine vv_callR (pc := 4) (rest := []) (by rw [e5]; rfl) (fun r8 k8 e8 => zz_callV X (m_X6_iterator (hlM X) _ _ _ _ e8) g9 rfl rfl q2147 q2148 q2149 q158 q2150 nh_X6 rfl (by decide) (by decide) (Nat.le_of_ble_eq_true rfl) dX2_cleans_4) (fun v2 h3 => ?_)
  refine vv_astore_n (pc := 7) (lv' := [(1, LR v2), (0, LR (some a0))]) X (kf := 1) (i := 1) rfl (by decide) rfl dX2_cleans_7 ?_
  exact vv_sub [1, 0] (by rfl) (B_X2_cleans_8 X _ _ _)
theorem m_X2_cleans {l : Launch} (hl : l.stackTraces = false) {G : va_G} (a0 : Nat) (h : HP) : ∀ r hf, f_X2_cleans a0 h = some (r, hf) → Ct l yX2_cleans (ws_ yX2_cleans cX2_cleans 3 none) 8 244 G h [.ref a0] (jV r) hf :=
  zz_ofW hl (by decide +kernel) (lv := [(0, LR (some a0))]) (by simp [lv_args, lvL, lvV, zz_rfc, zz_rfs, zz_ci, zz_cr, zz_cj, zz_cf, zz_cd]) (by simp [lg_sl, zz_rfc, zz_ci, zz_cr, zz_cj, zz_cf, zz_cd]) (fun _ X => A_X2_cleans X a0 h)
-- X2_puts RenamedWords$Desk.puts(II)I
noncomputable def f_X2_puts (a0 : Nat) (a1 : Int) (a2 : Int) (h : HP) : Option ((Int) × HP) :=
  (rcv h (some a0) [1]).bind fun b3 =>
  hb (f_X2_isPlace b3 a1 h) fun v1 h2 =>
  iEQ v1 0
    (some ((-4), h2))
    ((rdR h2 (some a0) [1] 0).bind fun v5 =>
    (rcv h2 v5 [3]).bind fun b8 =>
    hb (f_X5_puts b8 a1 a2 h2) fun v6 h7 =>
    (rdR h7 (some a0) [1] 4).bind fun v10 =>
    (aldI h7 .int v10 0).bind fun v11 =>
    (astI h7 .int v10 0 (v11 + 1)).bind fun h12 =>
    (rcv h12 (some a0) [1]).bind fun b15 =>
    hb (f_X2_cleans b15 h12) fun _ h14 =>
    some (v6, h14))
theorem A_X2_puts {M : hp_M} {G : va_G} {h0 : HP} (X : hp_X M G h0 "RenamedWords$Desk" "puts" cX2_puts 4 (some .int) [] 9 274) (a0 : Nat) (a1 : Int) (a2 : Int) (h : HP) : vv M G h0 4 (hp_End M G h0) jI h 0 [(0, LR (some a0)), (1, LI a1), (2, LI a2)] [] (f_X2_puts a0 a1 a2 h) := by
  unfold f_X2_puts
  refine vv_aload_n (pc := 0) X (kf := 0) (i := 0) rfl 0 rfl dX2_puts_0 ?_
  refine vv_iload_n (pc := 1) X (kf := 1) (i := 1) rfl 1 rfl dX2_puts_1 ?_
  refine vv_rcv (fun b3 t9 c9 fs9 e4 g9 k9 => ?_)
  cases List.mem_singleton.mp k9
  refine vv_callI (pc := 2) (rest := []) (by rw [e4]; rfl) (fun r8 k8 e8 => zz_callV X (m_X2_isPlace (hlM X) _ _ _ _ _ e8) g9 rfl rfl q2583 q2584 q2585 q133 q2586 nh_X2 rfl (by decide) (by decide) (Nat.le_of_ble_eq_true rfl) dX2_puts_2) (fun v1 h2 => ?_)
  refine vv_if_ne (pc := 5) (tgt := 11) X dX2_puts_5 rfl ?_ ?_
  · refine vv_aload_n (pc := 11) X (kf := 0) (i := 0) rfl 0 rfl dX2_puts_11 ?_
    refine vv_getR (pc := 12) X (fun _ z => by cases List.mem_singleton.mp z; exact fl_X2_12_1) dX2_puts_12 (fun v5 => ?_)
    refine vv_iload_n (pc := 15) X (kf := 1) (i := 1) rfl 1 rfl dX2_puts_15 ?_
    refine vv_iload_n (pc := 16) X (kf := 2) (i := 2) rfl 2 rfl dX2_puts_16 ?_
    refine vv_rcv (fun b8 t9 c9 fs9 e9 g9 k9 => ?_)
    cases List.mem_singleton.mp k9
    refine vv_callI (pc := 17) (rest := []) (by rw [e9]; rfl) (fun r8 k8 e8 => zz_callV X (m_X5_puts (hlM X) _ _ _ _ _ _ e8) g9 rfl rfl q2588 q2589 q2590 q157 q2591 nh_X5 rfl (by decide) (by decide) (Nat.le_of_ble_eq_true rfl) dX2_puts_17) (fun v6 h7 => ?_)
    refine vv_istore_n (pc := 20) (lv' := [(3, LI v6), (0, LR (some a0)), (1, LI a1), (2, LI a2)]) X (kf := 3) (i := 3) rfl (by decide) rfl dX2_puts_20 ?_
    refine vv_aload_n (pc := 21) X (kf := 0) (i := 0) rfl 1 rfl dX2_puts_21 ?_
    refine vv_getR (pc := 22) X (fun _ z => by cases List.mem_singleton.mp z; exact fl_X2_31_1) dX2_puts_22 (fun v10 => ?_)
    refine vv_iconst (pc := 25) X dX2_puts_25 ?_
    refine vv_dup2 (pc := 26) X rfl rfl dX2_puts_26 ?_
    refine vv_iaload (pc := 27) X dX2_puts_27 (fun v11 => ?_)
    refine vv_iconst (pc := 28) X dX2_puts_28 ?_
    refine vv_iadd (pc := 29) X dX2_puts_29 ?_
    refine vv_iastore (pc := 30) X dX2_puts_30 (fun h12 => ?_)
    refine vv_aload_n (pc := 31) X (kf := 0) (i := 0) rfl 1 rfl dX2_puts_31 ?_
    refine vv_rcv (fun b15 t9 c9 fs9 e16 g9 k9 => ?_)
    cases List.mem_singleton.mp k9
    refine vv_callV (pc := 32) (rest := []) (by rw [e16]; rfl) (fun r8 k8 e8 => zz_callV X (m_X2_cleans (hlM X) _ _ _ _ e8) g9 rfl rfl q2592 q2594 qs35 q133 q2595 nh_X2 rfl (by decide) (by decide) (Nat.le_of_ble_eq_true rfl) dX2_puts_32) (fun v13 h14 => ?_)
    refine vv_iload_n (pc := 35) X (kf := 3) (i := 3) rfl 0 rfl dX2_puts_35 ?_
    exact vv_iretI X rfl rfl dX2_puts_36
  · refine vv_bipush (pc := 8) X (by decide) dX2_puts_8 ?_
    exact vv_iretI X rfl rfl dX2_puts_10
theorem m_X2_puts {l : Launch} (hl : l.stackTraces = false) {G : va_G} (a0 : Nat) (a1 : Int) (a2 : Int) (h : HP) : ∀ r hf, f_X2_puts a0 a1 a2 h = some (r, hf) → Ct l yX2_puts (ws_ yX2_puts cX2_puts 4 (some .int)) 9 274 G h [.ref a0, .int (iI a1), .int (iI a2)] (jI r) hf :=
  zz_ofW hl (by decide +kernel) (lv := [(0, LR (some a0)), (1, LI a1), (2, LI a2)]) (by simp [lv_args, lvL, lvV, zz_rfc, zz_rfs, zz_ci, zz_cr, zz_cj, zz_cf, zz_cd]) (by simp [lg_sl, zz_rfc, zz_ci, zz_cr, zz_cj, zz_cf, zz_cd]) (fun _ X => A_X2_puts X a0 a1 a2 h)
-- X5_inserts RenamedWords$Text.inserts(II)I
noncomputable def f_X5_inserts (a0 : Nat) (a1 : Int) (a2 : Int) (h : HP) : Option ((Int) × HP) :=
  (rdR h (some a0) [3] 0).bind fun v1 =>
  (rdR h (some a0) [3] 0).bind fun v2 =>
  (rdI h (some a0) [3] 3).bind fun v3 =>
  (acpI h .int v1 a1 v2 (a1 + 1) (v3 - a1)).bind fun h4 =>
  (rdR h4 (some a0) [3] 0).bind fun v5 =>
  (astI h4 .int v5 a1 a2).bind fun h6 =>
  (wrI h6 (some a0) [3] 4 (-1)).bind fun h7 =>
  (rdI h7 (some a0) [3] 3).bind fun v8 =>
  (wrI h7 (some a0) [3] 3 (v8 + 1)).bind fun h9 =>
  (rdI h9 (some a0) [3] 3).bind fun v10 =>
  some (v10, h9)
theorem A_X5_inserts {M : hp_M} {G : va_G} {h0 : HP} (X : hp_X M G h0 "RenamedWords$Text" "inserts" cX5_inserts 3 (some .int) [] 1 100) (a0 : Nat) (a1 : Int) (a2 : Int) (h : HP) : vv M G h0 3 (hp_End M G h0) jI h 0 [(0, LR (some a0)), (1, LI a1), (2, LI a2)] [] (f_X5_inserts a0 a1 a2 h) := by
  unfold f_X5_inserts
  refine vv_aload_n (pc := 0) X (kf := 0) (i := 0) rfl 0 rfl dX5_inserts_0 ?_
  refine vv_getR (pc := 1) X (fun _ z => by cases List.mem_singleton.mp z; exact fl_X5_9_3) dX5_inserts_1 (fun v1 => ?_)
  refine vv_iload_n (pc := 4) X (kf := 1) (i := 1) rfl 1 rfl dX5_inserts_4 ?_
  refine vv_aload_n (pc := 5) X (kf := 0) (i := 0) rfl 0 rfl dX5_inserts_5 ?_
  refine vv_getR (pc := 6) X (fun _ z => by cases List.mem_singleton.mp z; exact fl_X5_9_3) dX5_inserts_6 (fun v2 => ?_)
  refine vv_iload_n (pc := 9) X (kf := 1) (i := 1) rfl 1 rfl dX5_inserts_9 ?_
  refine vv_iconst (pc := 10) X dX5_inserts_10 ?_
  refine vv_iadd (pc := 11) X dX5_inserts_11 ?_
  refine vv_aload_n (pc := 12) X (kf := 0) (i := 0) rfl 0 rfl dX5_inserts_12 ?_
  refine vv_getI (pc := 13) X (fun _ z => by cases List.mem_singleton.mp z; exact fl_X5_25_3) dX5_inserts_13 (fun v3 => ?_)
  refine vv_iload_n (pc := 16) X (kf := 1) (i := 1) rfl 1 rfl dX5_inserts_16 ?_
  refine vv_isub (pc := 17) X dX5_inserts_17 ?_
  refine vv_arraycopy (pc := 18) X q2141 q396 q395 q151 (by decide) (by decide) (Nat.le_of_ble_eq_true rfl) dX5_inserts_18 (fun h4 => ?_)
  refine vv_aload_n (pc := 21) X (kf := 0) (i := 0) rfl 0 rfl dX5_inserts_21 ?_
  refine vv_getR (pc := 22) X (fun _ z => by cases List.mem_singleton.mp z; exact fl_X5_9_3) dX5_inserts_22 (fun v5 => ?_)
  refine vv_iload_n (pc := 25) X (kf := 1) (i := 1) rfl 1 rfl dX5_inserts_25 ?_
  refine vv_iload_n (pc := 26) X (kf := 2) (i := 2) rfl 2 rfl dX5_inserts_26 ?_
  refine vv_iastore (pc := 27) X dX5_inserts_27 (fun h6 => ?_)
  refine vv_aload_n (pc := 28) X (kf := 0) (i := 0) rfl 0 rfl dX5_inserts_28 ?_
  refine vv_iconst (pc := 29) X dX5_inserts_29 ?_
  refine vv_putI (pc := 30) (fin := false) X (fun _ z => by cases List.mem_singleton.mp z; exact fl_X5_21_3) (fun z => nomatch z) (fun z => nomatch z) dX5_inserts_30 (fun h7 => ?_)
  refine vv_aload_n (pc := 33) X (kf := 0) (i := 0) rfl 0 rfl dX5_inserts_33 ?_
  refine vv_dup (pc := 34) X rfl dX5_inserts_34 ?_
  refine vv_getI (pc := 35) X (fun _ z => by cases List.mem_singleton.mp z; exact fl_X5_25_3) dX5_inserts_35 (fun v8 => ?_)
  refine vv_iconst (pc := 38) X dX5_inserts_38 ?_
  refine vv_iadd (pc := 39) X dX5_inserts_39 ?_
  refine vv_putI (pc := 40) (fin := false) X (fun _ z => by cases List.mem_singleton.mp z; exact fl_X5_25_3) (fun z => nomatch z) (fun z => nomatch z) dX5_inserts_40 (fun h9 => ?_)
  refine vv_aload_n (pc := 43) X (kf := 0) (i := 0) rfl 0 rfl dX5_inserts_43 ?_
  refine vv_getI (pc := 44) X (fun _ z => by cases List.mem_singleton.mp z; exact fl_X5_25_3) dX5_inserts_44 (fun v10 => ?_)
  exact vv_iretI X rfl rfl dX5_inserts_47
theorem m_X5_inserts {l : Launch} (hl : l.stackTraces = false) {G : va_G} (a0 : Nat) (a1 : Int) (a2 : Int) (h : HP) : ∀ r hf, f_X5_inserts a0 a1 a2 h = some (r, hf) → Ct l yX5_inserts (ws_ yX5_inserts cX5_inserts 3 (some .int)) 1 100 G h [.ref a0, .int (iI a1), .int (iI a2)] (jI r) hf :=
  zz_ofW hl (by decide +kernel) (lv := [(0, LR (some a0)), (1, LI a1), (2, LI a2)]) (by simp [lv_args, lvL, lvV, zz_rfc, zz_rfs, zz_ci, zz_cr, zz_cj, zz_cf, zz_cd]) (by simp [lg_sl, zz_rfc, zz_ci, zz_cr, zz_cj, zz_cf, zz_cd]) (fun _ X => A_X5_inserts X a0 a1 a2 h)
-- X2_moves RenamedWords$Desk.moves(II)V
noncomputable def b_X2_moves_48 (r8 : Int → Int → Option Nat → HP → Option ((Unit) × HP)) (x1 : Int) (x2 : Int) (x3 : Option Nat) (s0 : Int) (s1 : Int) (s2 : Option Nat) (h : HP) : Option ((Unit) × HP) :=
  (wrI h s2 [22] 1 (s1 + s0)).bind fun h16 =>
  r8 x1 x2 x3 h16
theorem B_X2_moves_48 {M : hp_M} {G : va_G} {h0 : HP} (X : hp_X M G h0 "RenamedWords$Desk" "moves" cX2_moves 5 none [] 3 85) (r8 : Int → Int → Option Nat → HP → Option ((Unit) × HP)) (hr8 : ∀ (y1 : Int) (y2 : Int) (y3 : Option Nat) (h : HP), vv M G h0 5 (hp_End M G h0) jV h 8 [(1, LI y1), (2, LI y2), (3, LR y3)] [] (r8 y1 y2 y3 h)) (x1 : Int) (x2 : Int) (x3 : Option Nat) (s0 : Int) (s1 : Int) (s2 : Option Nat) (h : HP) : vv M G h0 5 (hp_End M G h0) jV h 48 [(1, LI x1), (2, LI x2), (3, LR x3)] [LI s0, LI s1, LR s2] (b_X2_moves_48 r8 x1 x2 x3 s0 s1 s2 h) := by
  unfold b_X2_moves_48
  refine vv_iadd (pc := 48) X dX2_moves_48 ?_
  refine vv_putI (pc := 49) (fin := false) X (fun _ z => by cases List.mem_singleton.mp z; exact fl_X2_98_22) (fun z => nomatch z) (fun z => nomatch z) dX2_moves_49 (fun h16 => ?_)
  refine vv_goto (pc := 52) (tgt := 8) X dX2_moves_52 rfl ?_
  exact hr8 _ _ _ _
noncomputable def c_X2_moves_8 (r8 : Int → Int → Option Nat → HP → Option ((Unit) × HP)) (x1 : Int) (x2 : Int) (x3 : Option Nat) (h : HP) : Option ((Unit) × HP) :=
  (rcv h x3 [21]).bind fun b8 =>
  hb (f_X26_hasNext b8 h) fun v6 h7 =>
  iEQ v6 0
    (some ((), h7))
    ((rcv h7 x3 [21]).bind fun b12 =>
    hb (f_X26_next b12 h7) fun v10 h11 =>
    (chk h11 v10 [22]).bind fun _ =>
    (rdI h11 v10 [22] 1).bind fun v14 =>
    (rdI h11 v10 [22] 1).bind fun v15 =>
    iLT v15 x1
      (b_X2_moves_48 r8 x1 x2 x3 0 v14 v10 h11)
      (b_X2_moves_48 r8 x1 x2 x3 x2 v14 v10 h11))
noncomputable def b_X2_moves_8 : Int → Int → Option Nat → HP → Option ((Unit) × HP) := fx (fun _ _ _ _ => none) (c_X2_moves_8) FU
theorem C_X2_moves_8 {M : hp_M} {G : va_G} {h0 : HP} (X : hp_X M G h0 "RenamedWords$Desk" "moves" cX2_moves 5 none [] 3 85) (r8 : Int → Int → Option Nat → HP → Option ((Unit) × HP)) (hr8 : ∀ (y1 : Int) (y2 : Int) (y3 : Option Nat) (h : HP), vv M G h0 5 (hp_End M G h0) jV h 8 [(1, LI y1), (2, LI y2), (3, LR y3)] [] (r8 y1 y2 y3 h)) (x1 : Int) (x2 : Int) (x3 : Option Nat) (h : HP) : vv M G h0 5 (hp_End M G h0) jV h 8 [(1, LI x1), (2, LI x2), (3, LR x3)] [] (c_X2_moves_8 r8 x1 x2 x3 h) := by
  unfold c_X2_moves_8
  refine vv_aload_n (pc := 8) X (kf := 3) (i := 3) rfl 2 rfl dX2_moves_8 ?_
  refine vv_rcv (fun b8 t9 c9 fs9 e9 g9 k9 => ?_)
  cases List.mem_singleton.mp k9
  refine vv_callI (pc := 9) (rest := []) (by rw [e9]; rfl) (fun r8 k8 e8 => zz_callF X (m_X26_hasNext (hlM X) _ _ _ _ e8) g9 rfl q2171 (List.mem_of_getElem? (i := 5) rfl) q2177 q2175 q191 q2179 nh_xjava_util_Iterator rfl (by decide) (by decide) (Nat.le_of_ble_eq_true rfl) dX2_moves_9) (fun v6 h7 => ?_)
  refine vv_if_eq (pc := 14) (tgt := 55) X dX2_moves_14 rfl ?_ ?_
  · exact vv_vreturn X rfl rfl dX2_moves_55
  · refine vv_aload_n (pc := 17) X (kf := 3) (i := 3) rfl 2 rfl dX2_moves_17 ?_
    refine vv_rcv (fun b12 t9 c9 fs9 e13 g9 k9 => ?_)
    cases List.mem_singleton.mp k9
    refine vv_callR (pc := 18) (rest := []) (by rw [e13]; rfl) (fun r8 k8 e8 => zz_callF X (m_X26_next (hlM X) _ _ _ _ e8) g9 rfl q2204 (List.mem_of_getElem? (i := 6) rfl) q2209 q2207 q191 q2211 nh_xjava_util_Iterator rfl (by decide) (by decide) (Nat.le_of_ble_eq_true rfl) dX2_moves_18) (fun v10 h11 => ?_)
    refine vv_checkcast (pc := 23) X ⟨q2378, (fun _ z => by cases List.mem_singleton.mp z; exact ⟨_, rfl, Or.inl rfl⟩)⟩ dX2_moves_23 ?_
    refine vv_astore (pc := 26) (lv' := [(4, LR v10), (1, LI x1), (2, LI x2), (3, LR x3)]) X (by decide) rfl dX2_moves_26 ?_
    refine vv_aload (pc := 28) X 0 rfl dX2_moves_28 ?_
    refine vv_dup (pc := 30) X rfl dX2_moves_30 ?_
    refine vv_getI (pc := 31) X (fun _ z => by cases List.mem_singleton.mp z; exact fl_X2_98_22) dX2_moves_31 (fun v14 => ?_)
    refine vv_aload (pc := 34) X 0 rfl dX2_moves_34 ?_
    refine vv_getI (pc := 36) X (fun _ z => by cases List.mem_singleton.mp z; exact fl_X2_98_22) dX2_moves_36 (fun v15 => ?_)
    refine vv_iload_n (pc := 39) X (kf := 1) (i := 1) rfl 1 rfl dX2_moves_39 ?_
    refine vv_icmp_lt (pc := 40) (tgt := 47) X dX2_moves_40 rfl ?_ ?_
    · refine vv_iconst (pc := 47) X dX2_moves_47 ?_
      exact vv_sub [1, 2, 3] (by rfl) (B_X2_moves_48 X r8 hr8 _ _ _ _ _ _ _)
    · refine vv_iload_n (pc := 43) X (kf := 2) (i := 2) rfl 2 rfl dX2_moves_43 ?_
      refine vv_goto (pc := 44) (tgt := 48) X dX2_moves_44 rfl ?_
      exact vv_sub [1, 2, 3] (by rfl) (B_X2_moves_48 X r8 hr8 _ _ _ _ _ _ _)
theorem B_X2_moves_8 {M : hp_M} {G : va_G} {h0 : HP} (X : hp_X M G h0 "RenamedWords$Desk" "moves" cX2_moves 5 none [] 3 85) : ∀ (x1 : Int) (x2 : Int) (x3 : Option Nat) (h : HP), vv M G h0 5 (hp_End M G h0) jV h 8 [(1, LI x1), (2, LI x2), (3, LR x3)] [] (b_X2_moves_8 x1 x2 x3 h) := by
  unfold b_X2_moves_8
  generalize FU = n
  induction n with
  | zero => intro x1 x2 x3 h; exact vv_none
  | succ n ih => exact C_X2_moves_8 X _ ih
noncomputable def f_X2_moves (a0 : Nat) (a1 : Int) (a2 : Int) (h : HP) : Option ((Unit) × HP) :=
  (rdR h (some a0) [1] 3).bind fun v1 =>
  (rcv h v1 [4]).bind fun b4 =>
  hb (f_X6_iterator b4 h) fun v2 h3 =>
  b_X2_moves_8 a1 a2 v2 h3
theorem A_X2_moves {M : hp_M} {G : va_G} {h0 : HP} (X : hp_X M G h0 "RenamedWords$Desk" "moves" cX2_moves 5 none [] 3 85) (a0 : Nat) (a1 : Int) (a2 : Int) (h : HP) : vv M G h0 5 (hp_End M G h0) jV h 0 [(0, LR (some a0)), (1, LI a1), (2, LI a2)] [] (f_X2_moves a0 a1 a2 h) := by
  unfold f_X2_moves
  refine vv_aload_n (pc := 0) X (kf := 0) (i := 0) rfl 0 rfl dX2_moves_0 ?_
  refine vv_getR (pc := 1) X (fun _ z => by cases List.mem_singleton.mp z; exact fl_X2_27_1) dX2_moves_1 (fun v1 => ?_)
  refine vv_rcv (fun b4 t9 c9 fs9 e5 g9 k9 => ?_)
  cases List.mem_singleton.mp k9
  refine vv_callR (pc := 4) (rest := []) (by rw [e5]; rfl) (fun r8 k8 e8 => zz_callV X (m_X6_iterator (hlM X) _ _ _ _ e8) g9 rfl rfl q2147 q2148 q2149 q158 q2150 nh_X6 rfl (by decide) (by decide) (Nat.le_of_ble_eq_true rfl) dX2_moves_4) (fun v2 h3 => ?_)
  refine vv_astore_n (pc := 7) (lv' := [(3, LR v2), (0, LR (some a0)), (1, LI a1), (2, LI a2)]) X (kf := 3) (i := 3) rfl (by decide) rfl dX2_moves_7 ?_
  exact vv_sub [2, 3, 0] (by rfl) (B_X2_moves_8 X _ _ _ _)
theorem m_X2_moves {l : Launch} (hl : l.stackTraces = false) {G : va_G} (a0 : Nat) (a1 : Int) (a2 : Int) (h : HP) : ∀ r hf, f_X2_moves a0 a1 a2 h = some (r, hf) → Ct l yX2_moves (ws_ yX2_moves cX2_moves 5 none) 3 85 G h [.ref a0, .int (iI a1), .int (iI a2)] (jV r) hf :=
  zz_ofW hl (by decide +kernel) (lv := [(0, LR (some a0)), (1, LI a1), (2, LI a2)]) (by simp [lv_args, lvL, lvV, zz_rfc, zz_rfs, zz_ci, zz_cr, zz_cj, zz_cf, zz_cd]) (by simp [lg_sl, zz_rfc, zz_ci, zz_cr, zz_cj, zz_cf, zz_cd]) (fun _ X => A_X2_moves X a0 a1 a2 h)
-- X2_inserts RenamedWords$Desk.inserts(II)I
noncomputable def f_X2_inserts (a0 : Nat) (a1 : Int) (a2 : Int) (h : HP) : Option ((Int) × HP) :=
  (rdR h (some a0) [1] 0).bind fun v1 =>
  (rdI h v1 [3] 3).bind fun v2 =>
  iEQ v2 200
    (some ((-2), h))
    ((rdR h (some a0) [1] 0).bind fun v3 =>
    (rdI h v3 [3] 3).bind fun v4 =>
    iLE a1 v4
      ((rdR h (some a0) [1] 0).bind fun v5 =>
      (rcv h v5 [3]).bind fun b8 =>
      hb (f_X5_inserts b8 a1 a2 h) fun v6 h7 =>
      (rdR h7 (some a0) [1] 4).bind fun v10 =>
      (aldI h7 .int v10 1).bind fun v11 =>
      (astI h7 .int v10 1 (v11 + 1)).bind fun h12 =>
      (rcv h12 (some a0) [1]).bind fun b15 =>
      hb (f_X2_moves b15 a1 1 h12) fun _ h14 =>
      (rcv h14 (some a0) [1]).bind fun b19 =>
      hb (f_X2_cleans b19 h14) fun _ h18 =>
      some (v6, h18))
      (some ((-4), h)))
theorem A_X2_inserts {M : hp_M} {G : va_G} {h0 : HP} (X : hp_X M G h0 "RenamedWords$Desk" "inserts" cX2_inserts 4 (some .int) [] 9 274) (a0 : Nat) (a1 : Int) (a2 : Int) (h : HP) : vv M G h0 4 (hp_End M G h0) jI h 0 [(0, LR (some a0)), (1, LI a1), (2, LI a2)] [] (f_X2_inserts a0 a1 a2 h) := by
  unfold f_X2_inserts
  refine vv_aload_n (pc := 0) X (kf := 0) (i := 0) rfl 0 rfl dX2_inserts_0 ?_
  refine vv_getR (pc := 1) X (fun _ z => by cases List.mem_singleton.mp z; exact fl_X2_12_1) dX2_inserts_1 (fun v1 => ?_)
  refine vv_getI (pc := 4) X (fun _ z => by cases List.mem_singleton.mp z; exact fl_X2_123_3) dX2_inserts_4 (fun v2 => ?_)
  refine vv_sipush (pc := 7) X (by decide) dX2_inserts_7 ?_
  refine vv_icmp_ne (pc := 10) (tgt := 16) X dX2_inserts_10 rfl ?_ ?_
  · refine vv_iload_n (pc := 16) X (kf := 1) (i := 1) rfl 1 rfl dX2_inserts_16 ?_
    refine vv_aload_n (pc := 17) X (kf := 0) (i := 0) rfl 0 rfl dX2_inserts_17 ?_
    refine vv_getR (pc := 18) X (fun _ z => by cases List.mem_singleton.mp z; exact fl_X2_12_1) dX2_inserts_18 (fun v3 => ?_)
    refine vv_getI (pc := 21) X (fun _ z => by cases List.mem_singleton.mp z; exact fl_X2_123_3) dX2_inserts_21 (fun v4 => ?_)
    refine vv_icmp_le (pc := 24) (tgt := 30) X dX2_inserts_24 rfl ?_ ?_
    · refine vv_aload_n (pc := 30) X (kf := 0) (i := 0) rfl 0 rfl dX2_inserts_30 ?_
      refine vv_getR (pc := 31) X (fun _ z => by cases List.mem_singleton.mp z; exact fl_X2_12_1) dX2_inserts_31 (fun v5 => ?_)
      refine vv_iload_n (pc := 34) X (kf := 1) (i := 1) rfl 1 rfl dX2_inserts_34 ?_
      refine vv_iload_n (pc := 35) X (kf := 2) (i := 2) rfl 2 rfl dX2_inserts_35 ?_
      refine vv_rcv (fun b8 t9 c9 fs9 e9 g9 k9 => ?_)
      cases List.mem_singleton.mp k9
      refine vv_callI (pc := 36) (rest := []) (by rw [e9]; rfl) (fun r8 k8 e8 => zz_callV X (m_X5_inserts (hlM X) _ _ _ _ _ _ e8) g9 rfl rfl q2755 q2756 q2757 q157 q2758 nh_X5 rfl (by decide) (by decide) (Nat.le_of_ble_eq_true rfl) dX2_inserts_36) (fun v6 h7 => ?_)
      refine vv_istore_n (pc := 39) (lv' := [(3, LI v6), (0, LR (some a0)), (1, LI a1), (2, LI a2)]) X (kf := 3) (i := 3) rfl (by decide) rfl dX2_inserts_39 ?_
      refine vv_aload_n (pc := 40) X (kf := 0) (i := 0) rfl 1 rfl dX2_inserts_40 ?_
      refine vv_getR (pc := 41) X (fun _ z => by cases List.mem_singleton.mp z; exact fl_X2_31_1) dX2_inserts_41 (fun v10 => ?_)
      refine vv_iconst (pc := 44) X dX2_inserts_44 ?_
      refine vv_dup2 (pc := 45) X rfl rfl dX2_inserts_45 ?_
      refine vv_iaload (pc := 46) X dX2_inserts_46 (fun v11 => ?_)
      refine vv_iconst (pc := 47) X dX2_inserts_47 ?_
      refine vv_iadd (pc := 48) X dX2_inserts_48 ?_
      refine vv_iastore (pc := 49) X dX2_inserts_49 (fun h12 => ?_)
      refine vv_aload_n (pc := 50) X (kf := 0) (i := 0) rfl 1 rfl dX2_inserts_50 ?_
      refine vv_iload_n (pc := 51) X (kf := 1) (i := 1) rfl 2 rfl dX2_inserts_51 ?_
      refine vv_iconst (pc := 52) X dX2_inserts_52 ?_
      refine vv_rcv (fun b15 t9 c9 fs9 e16 g9 k9 => ?_)
      cases List.mem_singleton.mp k9
      refine vv_callV (pc := 53) (rest := []) (by rw [e16]; rfl) (fun r8 k8 e8 => zz_callV X (m_X2_moves (hlM X) _ _ _ _ _ _ e8) g9 rfl rfl q2759 q2761 qs38 q133 q2762 nh_X2 rfl (by decide) (by decide) (Nat.le_of_ble_eq_true rfl) dX2_inserts_53) (fun v13 h14 => ?_)
      refine vv_aload_n (pc := 56) X (kf := 0) (i := 0) rfl 1 rfl dX2_inserts_56 ?_
      refine vv_rcv (fun b19 t9 c9 fs9 e20 g9 k9 => ?_)
      cases List.mem_singleton.mp k9
      refine vv_callV (pc := 57) (rest := []) (by rw [e20]; rfl) (fun r8 k8 e8 => zz_callV X (m_X2_cleans (hlM X) _ _ _ _ e8) g9 rfl rfl q2592 q2594 qs35 q133 q2595 nh_X2 rfl (by decide) (by decide) (Nat.le_of_ble_eq_true rfl) dX2_inserts_57) (fun v17 h18 => ?_)
      refine vv_iload_n (pc := 60) X (kf := 3) (i := 3) rfl 0 rfl dX2_inserts_60 ?_
      exact vv_iretI X rfl rfl dX2_inserts_61
    · refine vv_bipush (pc := 27) X (by decide) dX2_inserts_27 ?_
      exact vv_iretI X rfl rfl dX2_inserts_29
  · refine vv_bipush (pc := 13) X (by decide) dX2_inserts_13 ?_
    exact vv_iretI X rfl rfl dX2_inserts_15
theorem m_X2_inserts {l : Launch} (hl : l.stackTraces = false) {G : va_G} (a0 : Nat) (a1 : Int) (a2 : Int) (h : HP) : ∀ r hf, f_X2_inserts a0 a1 a2 h = some (r, hf) → Ct l yX2_inserts (ws_ yX2_inserts cX2_inserts 4 (some .int)) 9 274 G h [.ref a0, .int (iI a1), .int (iI a2)] (jI r) hf :=
  zz_ofW hl (by decide +kernel) (lv := [(0, LR (some a0)), (1, LI a1), (2, LI a2)]) (by simp [lv_args, lvL, lvV, zz_rfc, zz_rfs, zz_ci, zz_cr, zz_cj, zz_cf, zz_cd]) (by simp [lg_sl, zz_rfc, zz_ci, zz_cr, zz_cj, zz_cf, zz_cd]) (fun _ X => A_X2_inserts X a0 a1 a2 h)
-- X19_does RenamedWords$ScriptReader$1.does()I
noncomputable def b_X19_does_84 (x1 : Int) (h : HP) : Option ((Int) × HP) :=
  some (x1, h)
theorem B_X19_does_84 {M : hp_M} {G : va_G} {h0 : HP} (X : hp_X M G h0 "RenamedWords$ScriptReader$1" "does" cX19_does 3 (some .int) [] 10 305) (x1 : Int) (h : HP) : vv M G h0 3 (hp_End M G h0) jI h 84 [(1, LI x1)] [] (b_X19_does_84 x1 h) := by
  unfold b_X19_does_84
  refine vv_iload_n (pc := 84) X (kf := 1) (i := 1) rfl 0 rfl dX19_does_84 ?_
  exact vv_iretI X rfl rfl dX19_does_85
noncomputable def b_X19_does_77 (r4 : Option Nat → Int → Int → HP → Option ((Int) × HP)) (x0 : Option Nat) (x2 : Int) (s0 : Int) (h : HP) : Option ((Int) × HP) :=
  r4 x0 s0 (x2 + 1) h
theorem B_X19_does_77 {M : hp_M} {G : va_G} {h0 : HP} (X : hp_X M G h0 "RenamedWords$ScriptReader$1" "does" cX19_does 3 (some .int) [] 10 305) (r4 : Option Nat → Int → Int → HP → Option ((Int) × HP)) (hr4 : ∀ (y0 : Option Nat) (y1 : Int) (y2 : Int) (h : HP), vv M G h0 3 (hp_End M G h0) jI h 4 [(0, LR y0), (1, LI y1), (2, LI y2)] [] (r4 y0 y1 y2 h)) (x0 : Option Nat) (x2 : Int) (s0 : Int) (h : HP) : vv M G h0 3 (hp_End M G h0) jI h 77 [(0, LR x0), (2, LI x2)] [LI s0] (b_X19_does_77 r4 x0 x2 s0 h) := by
  unfold b_X19_does_77
  refine vv_istore_n (pc := 77) (lv' := [(1, LI s0), (0, LR x0), (2, LI x2)]) X (kf := 1) (i := 1) rfl (by decide) rfl dX19_does_77 ?_
  refine vv_iinc (pc := 78) (lv' := [(2, LI (x2 + 1)), (1, LI s0), (0, LR x0)]) X 2 rfl (by decide) rfl dX19_does_78 ?_
  refine vv_goto (pc := 81) (tgt := 4) X dX19_does_81 rfl ?_
  exact vv_sub [2, 1, 0] (by rfl) (hr4 _ _ _ _)
noncomputable def c_X19_does_4 (r4 : Option Nat → Int → Int → HP → Option ((Int) × HP)) (x0 : Option Nat) (x1 : Int) (x2 : Int) (h : HP) : Option ((Int) × HP) :=
  (rdR h x0 [14] 1).bind fun v1 =>
  (alen h v1).bind fun v2 =>
  iLE v2 x2
    (b_X19_does_84 x1 h)
    (iLT x1 0
      (b_X19_does_84 x1 h)
      ((rdI h x0 [14] 2).bind fun v3 =>
      iEQ v3 0
        ((rdR h x0 [14] 4).bind fun v4 =>
        (rdR h v4 [12] 9).bind fun v5 =>
        (rdR h v5 [0] 0).bind fun v6 =>
        (rdI h x0 [14] 3).bind fun v7 =>
        (rdR h x0 [14] 1).bind fun v8 =>
        (aldI h .int v8 x2).bind fun v9 =>
        (rcv h v6 [1]).bind fun b12 =>
        hb (f_X2_inserts b12 (v7 + x2) v9 h) fun v10 h11 =>
        b_X19_does_77 r4 x0 x2 v10 h11)
        ((rdR h x0 [14] 4).bind fun v14 =>
        (rdR h v14 [12] 9).bind fun v15 =>
        (rdR h v15 [0] 0).bind fun v16 =>
        (rdI h x0 [14] 3).bind fun v17 =>
        (rdR h x0 [14] 1).bind fun v18 =>
        (aldI h .int v18 x2).bind fun v19 =>
        (rcv h v16 [1]).bind fun b22 =>
        hb (f_X2_puts b22 (v17 + x2) v19 h) fun v20 h21 =>
        b_X19_does_77 r4 x0 x2 v20 h21)))
noncomputable def b_X19_does_4 : Option Nat → Int → Int → HP → Option ((Int) × HP) := fx (fun _ _ _ _ => none) (c_X19_does_4) FU
theorem C_X19_does_4 {M : hp_M} {G : va_G} {h0 : HP} (X : hp_X M G h0 "RenamedWords$ScriptReader$1" "does" cX19_does 3 (some .int) [] 10 305) (r4 : Option Nat → Int → Int → HP → Option ((Int) × HP)) (hr4 : ∀ (y0 : Option Nat) (y1 : Int) (y2 : Int) (h : HP), vv M G h0 3 (hp_End M G h0) jI h 4 [(0, LR y0), (1, LI y1), (2, LI y2)] [] (r4 y0 y1 y2 h)) (x0 : Option Nat) (x1 : Int) (x2 : Int) (h : HP) : vv M G h0 3 (hp_End M G h0) jI h 4 [(0, LR x0), (1, LI x1), (2, LI x2)] [] (c_X19_does_4 r4 x0 x1 x2 h) := by
  unfold c_X19_does_4
  refine vv_iload_n (pc := 4) X (kf := 2) (i := 2) rfl 2 rfl dX19_does_4 ?_
  refine vv_aload_n (pc := 5) X (kf := 0) (i := 0) rfl 0 rfl dX19_does_5 ?_
  refine vv_getR (pc := 6) X (fun _ z => by cases List.mem_singleton.mp z; exact fl_X19_7_14) dX19_does_6 (fun v1 => ?_)
  refine vv_alen (pc := 9) X dX19_does_9 (fun v2 => ?_)
  refine vv_icmp_ge (pc := 10) (tgt := 84) X dX19_does_10 rfl ?_ ?_
  · exact vv_sub [1] (by rfl) (B_X19_does_84 X _ _)
  · refine vv_iload_n (pc := 13) X (kf := 1) (i := 1) rfl 1 rfl dX19_does_13 ?_
    refine vv_if_lt (pc := 14) (tgt := 84) X dX19_does_14 rfl ?_ ?_
    · exact vv_sub [1] (by rfl) (B_X19_does_84 X _ _)
    · refine vv_aload_n (pc := 17) X (kf := 0) (i := 0) rfl 0 rfl dX19_does_17 ?_
      refine vv_getI (pc := 18) X (fun _ z => by cases List.mem_singleton.mp z; exact fl_X19_11_14) dX19_does_18 (fun v3 => ?_)
      refine vv_if_eq (pc := 21) (tgt := 52) X dX19_does_21 rfl ?_ ?_
      · refine vv_aload_n (pc := 52) X (kf := 0) (i := 0) rfl 0 rfl dX19_does_52 ?_
        refine vv_getR (pc := 53) X (fun _ z => by cases List.mem_singleton.mp z; exact fl_X19_1_14) dX19_does_53 (fun v4 => ?_)
        refine vv_getR (pc := 56) X (fun _ z => by cases List.mem_singleton.mp z; exact fl_X19_19_12) dX19_does_56 (fun v5 => ?_)
        refine vv_getR (pc := 59) X (fun _ z => by cases List.mem_singleton.mp z; exact fl_X19_31_0) dX19_does_59 (fun v6 => ?_)
        refine vv_aload_n (pc := 62) X (kf := 0) (i := 0) rfl 0 rfl dX19_does_62 ?_
        refine vv_getI (pc := 63) X (fun _ z => by cases List.mem_singleton.mp z; exact fl_X19_15_14) dX19_does_63 (fun v7 => ?_)
        refine vv_iload_n (pc := 66) X (kf := 2) (i := 2) rfl 2 rfl dX19_does_66 ?_
        refine vv_iadd (pc := 67) X dX19_does_67 ?_
        refine vv_aload_n (pc := 68) X (kf := 0) (i := 0) rfl 0 rfl dX19_does_68 ?_
        refine vv_getR (pc := 69) X (fun _ z => by cases List.mem_singleton.mp z; exact fl_X19_7_14) dX19_does_69 (fun v8 => ?_)
        refine vv_iload_n (pc := 72) X (kf := 2) (i := 2) rfl 2 rfl dX19_does_72 ?_
        refine vv_iaload (pc := 73) X dX19_does_73 (fun v9 => ?_)
        refine vv_rcv (fun b12 t9 c9 fs9 e13 g9 k9 => ?_)
        cases List.mem_singleton.mp k9
        refine vv_callI (pc := 74) (rest := []) (by rw [e13]; rfl) (fun r8 k8 e8 => zz_callV X (m_X2_inserts (hlM X) _ _ _ _ _ _ e8) g9 rfl rfl q2751 q2752 q2753 q133 q2754 nh_X2 rfl (by decide) (by decide) (Nat.le_of_ble_eq_true rfl) dX19_does_74) (fun v10 h11 => ?_)
        exact vv_sub [0, 2] (by rfl) (B_X19_does_77 X r4 hr4 _ _ _ _)
      · refine vv_aload_n (pc := 24) X (kf := 0) (i := 0) rfl 0 rfl dX19_does_24 ?_
        refine vv_getR (pc := 25) X (fun _ z => by cases List.mem_singleton.mp z; exact fl_X19_1_14) dX19_does_25 (fun v14 => ?_)
        refine vv_getR (pc := 28) X (fun _ z => by cases List.mem_singleton.mp z; exact fl_X19_19_12) dX19_does_28 (fun v15 => ?_)
        refine vv_getR (pc := 31) X (fun _ z => by cases List.mem_singleton.mp z; exact fl_X19_31_0) dX19_does_31 (fun v16 => ?_)
        refine vv_aload_n (pc := 34) X (kf := 0) (i := 0) rfl 0 rfl dX19_does_34 ?_
        refine vv_getI (pc := 35) X (fun _ z => by cases List.mem_singleton.mp z; exact fl_X19_15_14) dX19_does_35 (fun v17 => ?_)
        refine vv_iload_n (pc := 38) X (kf := 2) (i := 2) rfl 2 rfl dX19_does_38 ?_
        refine vv_iadd (pc := 39) X dX19_does_39 ?_
        refine vv_aload_n (pc := 40) X (kf := 0) (i := 0) rfl 0 rfl dX19_does_40 ?_
        refine vv_getR (pc := 41) X (fun _ z => by cases List.mem_singleton.mp z; exact fl_X19_7_14) dX19_does_41 (fun v18 => ?_)
        refine vv_iload_n (pc := 44) X (kf := 2) (i := 2) rfl 2 rfl dX19_does_44 ?_
        refine vv_iaload (pc := 45) X dX19_does_45 (fun v19 => ?_)
        refine vv_rcv (fun b22 t9 c9 fs9 e23 g9 k9 => ?_)
        cases List.mem_singleton.mp k9
        refine vv_callI (pc := 46) (rest := []) (by rw [e23]; rfl) (fun r8 k8 e8 => zz_callV X (m_X2_puts (hlM X) _ _ _ _ _ _ e8) g9 rfl rfl q2579 q2580 q2581 q133 q2582 nh_X2 rfl (by decide) (by decide) (Nat.le_of_ble_eq_true rfl) dX19_does_46) (fun v20 h21 => ?_)
        refine vv_goto (pc := 49) (tgt := 77) X dX19_does_49 rfl ?_
        exact vv_sub [0, 2] (by rfl) (B_X19_does_77 X r4 hr4 _ _ _ _)
theorem B_X19_does_4 {M : hp_M} {G : va_G} {h0 : HP} (X : hp_X M G h0 "RenamedWords$ScriptReader$1" "does" cX19_does 3 (some .int) [] 10 305) : ∀ (x0 : Option Nat) (x1 : Int) (x2 : Int) (h : HP), vv M G h0 3 (hp_End M G h0) jI h 4 [(0, LR x0), (1, LI x1), (2, LI x2)] [] (b_X19_does_4 x0 x1 x2 h) := by
  unfold b_X19_does_4
  generalize FU = n
  induction n with
  | zero => intro x0 x1 x2 h; exact vv_none
  | succ n ih => exact C_X19_does_4 X _ ih
noncomputable def f_X19_does (a0 : Nat) (h : HP) : Option ((Int) × HP) :=
  b_X19_does_4 (some a0) 0 0 h
theorem A_X19_does {M : hp_M} {G : va_G} {h0 : HP} (X : hp_X M G h0 "RenamedWords$ScriptReader$1" "does" cX19_does 3 (some .int) [] 10 305) (a0 : Nat) (h : HP) : vv M G h0 3 (hp_End M G h0) jI h 0 [(0, LR (some a0))] [] (f_X19_does a0 h) := by
  unfold f_X19_does
  refine vv_iconst (pc := 0) X dX19_does_0 ?_
  refine vv_istore_n (pc := 1) (lv' := [(1, LI 0), (0, LR (some a0))]) X (kf := 1) (i := 1) rfl (by decide) rfl dX19_does_1 ?_
  refine vv_iconst (pc := 2) X dX19_does_2 ?_
  refine vv_istore_n (pc := 3) (lv' := [(2, LI 0), (1, LI 0), (0, LR (some a0))]) X (kf := 2) (i := 2) rfl (by decide) rfl dX19_does_3 ?_
  exact vv_sub [2, 1, 0] (by rfl) (B_X19_does_4 X _ _ _ _)
theorem m_X19_does {l : Launch} (hl : l.stackTraces = false) {G : va_G} (a0 : Nat) (h : HP) : ∀ r hf, f_X19_does a0 h = some (r, hf) → Ct l yX19_does (ws_ yX19_does cX19_does 3 (some .int)) 10 305 G h [.ref a0] (jI r) hf :=
  zz_ofW hl (by decide +kernel) (lv := [(0, LR (some a0))]) (by simp [lv_args, lvL, lvV, zz_rfc, zz_rfs, zz_ci, zz_cr, zz_cj, zz_cf, zz_cd]) (by simp [lg_sl, zz_rfc, zz_ci, zz_cr, zz_cj, zz_cf, zz_cd]) (fun _ X => A_X19_does X a0 h)
-- X5_erases RenamedWords$Text.erases(I)I
noncomputable def f_X5_erases (a0 : Nat) (a1 : Int) (h : HP) : Option ((Int) × HP) :=
  (rdI h (some a0) [3] 3).bind fun v1 =>
  (wrI h (some a0) [3] 3 (v1 - 1)).bind fun h2 =>
  (rdR h2 (some a0) [3] 0).bind fun v3 =>
  (rdR h2 (some a0) [3] 0).bind fun v4 =>
  (rdI h2 (some a0) [3] 3).bind fun v5 =>
  (acpI h2 .int v3 (a1 + 1) v4 a1 (v5 - a1)).bind fun h6 =>
  (wrI h6 (some a0) [3] 4 (-1)).bind fun h7 =>
  (rdI h7 (some a0) [3] 3).bind fun v8 =>
  some (v8, h7)
theorem A_X5_erases {M : hp_M} {G : va_G} {h0 : HP} (X : hp_X M G h0 "RenamedWords$Text" "erases" cX5_erases 2 (some .int) [] 1 100) (a0 : Nat) (a1 : Int) (h : HP) : vv M G h0 2 (hp_End M G h0) jI h 0 [(0, LR (some a0)), (1, LI a1)] [] (f_X5_erases a0 a1 h) := by
  unfold f_X5_erases
  refine vv_aload_n (pc := 0) X (kf := 0) (i := 0) rfl 0 rfl dX5_erases_0 ?_
  refine vv_dup (pc := 1) X rfl dX5_erases_1 ?_
  refine vv_getI (pc := 2) X (fun _ z => by cases List.mem_singleton.mp z; exact fl_X5_25_3) dX5_erases_2 (fun v1 => ?_)
  refine vv_iconst (pc := 5) X dX5_erases_5 ?_
  refine vv_isub (pc := 6) X dX5_erases_6 ?_
  refine vv_putI (pc := 7) (fin := false) X (fun _ z => by cases List.mem_singleton.mp z; exact fl_X5_25_3) (fun z => nomatch z) (fun z => nomatch z) dX5_erases_7 (fun h2 => ?_)
  refine vv_aload_n (pc := 10) X (kf := 0) (i := 0) rfl 0 rfl dX5_erases_10 ?_
  refine vv_getR (pc := 11) X (fun _ z => by cases List.mem_singleton.mp z; exact fl_X5_9_3) dX5_erases_11 (fun v3 => ?_)
  refine vv_iload_n (pc := 14) X (kf := 1) (i := 1) rfl 1 rfl dX5_erases_14 ?_
  refine vv_iconst (pc := 15) X dX5_erases_15 ?_
  refine vv_iadd (pc := 16) X dX5_erases_16 ?_
  refine vv_aload_n (pc := 17) X (kf := 0) (i := 0) rfl 0 rfl dX5_erases_17 ?_
  refine vv_getR (pc := 18) X (fun _ z => by cases List.mem_singleton.mp z; exact fl_X5_9_3) dX5_erases_18 (fun v4 => ?_)
  refine vv_iload_n (pc := 21) X (kf := 1) (i := 1) rfl 1 rfl dX5_erases_21 ?_
  refine vv_aload_n (pc := 22) X (kf := 0) (i := 0) rfl 0 rfl dX5_erases_22 ?_
  refine vv_getI (pc := 23) X (fun _ z => by cases List.mem_singleton.mp z; exact fl_X5_25_3) dX5_erases_23 (fun v5 => ?_)
  refine vv_iload_n (pc := 26) X (kf := 1) (i := 1) rfl 1 rfl dX5_erases_26 ?_
  refine vv_isub (pc := 27) X dX5_erases_27 ?_
  refine vv_arraycopy (pc := 28) X q2141 q396 q395 q151 (by decide) (by decide) (Nat.le_of_ble_eq_true rfl) dX5_erases_28 (fun h6 => ?_)
  refine vv_aload_n (pc := 31) X (kf := 0) (i := 0) rfl 0 rfl dX5_erases_31 ?_
  refine vv_iconst (pc := 32) X dX5_erases_32 ?_
  refine vv_putI (pc := 33) (fin := false) X (fun _ z => by cases List.mem_singleton.mp z; exact fl_X5_21_3) (fun z => nomatch z) (fun z => nomatch z) dX5_erases_33 (fun h7 => ?_)
  refine vv_aload_n (pc := 36) X (kf := 0) (i := 0) rfl 0 rfl dX5_erases_36 ?_
  refine vv_getI (pc := 37) X (fun _ z => by cases List.mem_singleton.mp z; exact fl_X5_25_3) dX5_erases_37 (fun v8 => ?_)
  exact vv_iretI X rfl rfl dX5_erases_40
theorem m_X5_erases {l : Launch} (hl : l.stackTraces = false) {G : va_G} (a0 : Nat) (a1 : Int) (h : HP) : ∀ r hf, f_X5_erases a0 a1 h = some (r, hf) → Ct l yX5_erases (ws_ yX5_erases cX5_erases 2 (some .int)) 1 100 G h [.ref a0, .int (iI a1)] (jI r) hf :=
  zz_ofW hl (by decide +kernel) (lv := [(0, LR (some a0)), (1, LI a1)]) (by simp [lv_args, lvL, lvV, zz_rfc, zz_rfs, zz_ci, zz_cr, zz_cj, zz_cf, zz_cd]) (by simp [lg_sl, zz_rfc, zz_ci, zz_cr, zz_cj, zz_cf, zz_cd]) (fun _ X => A_X5_erases X a0 a1 h)
-- X2_erases RenamedWords$Desk.erases(I)I
noncomputable def f_X2_erases (a0 : Nat) (a1 : Int) (h : HP) : Option ((Int) × HP) :=
  (rdR h (some a0) [1] 0).bind fun v1 =>
  (rdI h v1 [3] 3).bind fun v2 =>
  iEQ v2 1
    (some ((-3), h))
    ((rcv h (some a0) [1]).bind fun b5 =>
    hb (f_X2_isPlace b5 a1 h) fun v3 h4 =>
    iEQ v3 0
      (some ((-4), h4))
      ((rdR h4 (some a0) [1] 0).bind fun v7 =>
      (rcv h4 v7 [3]).bind fun b10 =>
      hb (f_X5_erases b10 a1 h4) fun v8 h9 =>
      (rdR h9 (some a0) [1] 4).bind fun v12 =>
      (aldI h9 .int v12 2).bind fun v13 =>
      (astI h9 .int v12 2 (v13 + 1)).bind fun h14 =>
      (rcv h14 (some a0) [1]).bind fun b17 =>
      hb (f_X2_moves b17 (a1 + 1) (-1) h14) fun _ h16 =>
      (rcv h16 (some a0) [1]).bind fun b21 =>
      hb (f_X2_cleans b21 h16) fun _ h20 =>
      some (v8, h20)))
theorem A_X2_erases {M : hp_M} {G : va_G} {h0 : HP} (X : hp_X M G h0 "RenamedWords$Desk" "erases" cX2_erases 3 (some .int) [] 9 274) (a0 : Nat) (a1 : Int) (h : HP) : vv M G h0 3 (hp_End M G h0) jI h 0 [(0, LR (some a0)), (1, LI a1)] [] (f_X2_erases a0 a1 h) := by
  unfold f_X2_erases
  refine vv_aload_n (pc := 0) X (kf := 0) (i := 0) rfl 0 rfl dX2_erases_0 ?_
  refine vv_getR (pc := 1) X (fun _ z => by cases List.mem_singleton.mp z; exact fl_X2_12_1) dX2_erases_1 (fun v1 => ?_)
  refine vv_getI (pc := 4) X (fun _ z => by cases List.mem_singleton.mp z; exact fl_X2_123_3) dX2_erases_4 (fun v2 => ?_)
  refine vv_iconst (pc := 7) X dX2_erases_7 ?_
  refine vv_icmp_ne (pc := 8) (tgt := 14) X dX2_erases_8 rfl ?_ ?_
  · refine vv_aload_n (pc := 14) X (kf := 0) (i := 0) rfl 0 rfl dX2_erases_14 ?_
    refine vv_iload_n (pc := 15) X (kf := 1) (i := 1) rfl 1 rfl dX2_erases_15 ?_
    refine vv_rcv (fun b5 t9 c9 fs9 e6 g9 k9 => ?_)
    cases List.mem_singleton.mp k9
    refine vv_callI (pc := 16) (rest := []) (by rw [e6]; rfl) (fun r8 k8 e8 => zz_callV X (m_X2_isPlace (hlM X) _ _ _ _ _ e8) g9 rfl rfl q2583 q2584 q2585 q133 q2586 nh_X2 rfl (by decide) (by decide) (Nat.le_of_ble_eq_true rfl) dX2_erases_16) (fun v3 h4 => ?_)
    refine vv_if_ne (pc := 19) (tgt := 25) X dX2_erases_19 rfl ?_ ?_
    · refine vv_aload_n (pc := 25) X (kf := 0) (i := 0) rfl 0 rfl dX2_erases_25 ?_
      refine vv_getR (pc := 26) X (fun _ z => by cases List.mem_singleton.mp z; exact fl_X2_12_1) dX2_erases_26 (fun v7 => ?_)
      refine vv_iload_n (pc := 29) X (kf := 1) (i := 1) rfl 1 rfl dX2_erases_29 ?_
      refine vv_rcv (fun b10 t9 c9 fs9 e11 g9 k9 => ?_)
      cases List.mem_singleton.mp k9
      refine vv_callI (pc := 30) (rest := []) (by rw [e11]; rfl) (fun r8 k8 e8 => zz_callV X (m_X5_erases (hlM X) _ _ _ _ _ e8) g9 rfl rfl q2770 q2771 q2772 q157 q2773 nh_X5 rfl (by decide) (by decide) (Nat.le_of_ble_eq_true rfl) dX2_erases_30) (fun v8 h9 => ?_)
      refine vv_istore_n (pc := 33) (lv' := [(2, LI v8), (0, LR (some a0)), (1, LI a1)]) X (kf := 2) (i := 2) rfl (by decide) rfl dX2_erases_33 ?_
      refine vv_aload_n (pc := 34) X (kf := 0) (i := 0) rfl 1 rfl dX2_erases_34 ?_
      refine vv_getR (pc := 35) X (fun _ z => by cases List.mem_singleton.mp z; exact fl_X2_31_1) dX2_erases_35 (fun v12 => ?_)
      refine vv_iconst (pc := 38) X dX2_erases_38 ?_
      refine vv_dup2 (pc := 39) X rfl rfl dX2_erases_39 ?_
      refine vv_iaload (pc := 40) X dX2_erases_40 (fun v13 => ?_)
      refine vv_iconst (pc := 41) X dX2_erases_41 ?_
      refine vv_iadd (pc := 42) X dX2_erases_42 ?_
      refine vv_iastore (pc := 43) X dX2_erases_43 (fun h14 => ?_)
      refine vv_aload_n (pc := 44) X (kf := 0) (i := 0) rfl 1 rfl dX2_erases_44 ?_
      refine vv_iload_n (pc := 45) X (kf := 1) (i := 1) rfl 2 rfl dX2_erases_45 ?_
      refine vv_iconst (pc := 46) X dX2_erases_46 ?_
      refine vv_iadd (pc := 47) X dX2_erases_47 ?_
      refine vv_iconst (pc := 48) X dX2_erases_48 ?_
      refine vv_rcv (fun b17 t9 c9 fs9 e18 g9 k9 => ?_)
      cases List.mem_singleton.mp k9
      refine vv_callV (pc := 49) (rest := []) (by rw [e18]; rfl) (fun r8 k8 e8 => zz_callV X (m_X2_moves (hlM X) _ _ _ _ _ _ e8) g9 rfl rfl q2759 q2761 qs38 q133 q2762 nh_X2 rfl (by decide) (by decide) (Nat.le_of_ble_eq_true rfl) dX2_erases_49) (fun v15 h16 => ?_)
      refine vv_aload_n (pc := 52) X (kf := 0) (i := 0) rfl 1 rfl dX2_erases_52 ?_
      refine vv_rcv (fun b21 t9 c9 fs9 e22 g9 k9 => ?_)
      cases List.mem_singleton.mp k9
      refine vv_callV (pc := 53) (rest := []) (by rw [e22]; rfl) (fun r8 k8 e8 => zz_callV X (m_X2_cleans (hlM X) _ _ _ _ e8) g9 rfl rfl q2592 q2594 qs35 q133 q2595 nh_X2 rfl (by decide) (by decide) (Nat.le_of_ble_eq_true rfl) dX2_erases_53) (fun v19 h20 => ?_)
      refine vv_iload_n (pc := 56) X (kf := 2) (i := 2) rfl 0 rfl dX2_erases_56 ?_
      exact vv_iretI X rfl rfl dX2_erases_57
    · refine vv_bipush (pc := 22) X (by decide) dX2_erases_22 ?_
      exact vv_iretI X rfl rfl dX2_erases_24
  · refine vv_bipush (pc := 11) X (by decide) dX2_erases_11 ?_
    exact vv_iretI X rfl rfl dX2_erases_13
theorem m_X2_erases {l : Launch} (hl : l.stackTraces = false) {G : va_G} (a0 : Nat) (a1 : Int) (h : HP) : ∀ r hf, f_X2_erases a0 a1 h = some (r, hf) → Ct l yX2_erases (ws_ yX2_erases cX2_erases 3 (some .int)) 9 274 G h [.ref a0, .int (iI a1)] (jI r) hf :=
  zz_ofW hl (by decide +kernel) (lv := [(0, LR (some a0)), (1, LI a1)]) (by simp [lv_args, lvL, lvV, zz_rfc, zz_rfs, zz_ci, zz_cr, zz_cj, zz_cf, zz_cd]) (by simp [lg_sl, zz_rfc, zz_ci, zz_cr, zz_cj, zz_cf, zz_cd]) (fun _ X => A_X2_erases X a0 a1 h)
