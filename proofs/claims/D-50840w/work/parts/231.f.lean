/-! STAGE 1c: functions and contracts (printed by gen/mkfuncs.py). -/
set_option maxRecDepth 100000
set_option linter.unusedVariables false
-- J40_checkInvariants java/util/BitSet.checkInvariants()V
noncomputable def b_J40_checkInvariants_110 (h : HP) : Option ((Unit) × HP) :=
  some ((), h)
theorem B_J40_checkInvariants_110 {M : hp_M} {G : va_G} {h0 : HP} (X : hp_X M G h0 "java/util/BitSet" "checkInvariants" cJ40_checkInvariants 1 none [] 0 0) (h : HP) : vv M G h0 1 (hp_End M G h0) jV h 110 [] [] (b_J40_checkInvariants_110 h) := by
  unfold b_J40_checkInvariants_110
  exact vv_vreturn X rfl rfl dJ40_checkInvariants_110
noncomputable def b_J40_checkInvariants_70 (x0 : Option Nat) (h : HP) : Option ((Unit) × HP) :=
  iEQ 1 0
    ((rdI h x0 [33] 1).bind fun v1 =>
    (rdR h x0 [33] 0).bind fun v2 =>
    (alen h v2).bind fun v3 =>
    iEQ v1 v3
      (b_J40_checkInvariants_110 h)
      ((rdR h x0 [33] 0).bind fun v4 =>
      (rdI h x0 [33] 1).bind fun v5 =>
      (aldJ h v4 v5).bind fun v6 =>
      iEQ (lCmp v6 0) 0
        (b_J40_checkInvariants_110 h)
        (none)))
    (b_J40_checkInvariants_110 h)
theorem B_J40_checkInvariants_70 {M : hp_M} {G : va_G} {h0 : HP} (X : hp_X M G h0 "java/util/BitSet" "checkInvariants" cJ40_checkInvariants 1 none [] 0 0) (x0 : Option Nat) (h : HP) : vv M G h0 1 (hp_End M G h0) jV h 70 [(0, LR x0)] [] (b_J40_checkInvariants_70 x0 h) := by
  unfold b_J40_checkInvariants_70
  refine vv_gets (pc := 70) (w := LI 1) X (gs_10 _) rfl q2922 dJ40_checkInvariants_70 ?_
  refine vv_if_ne (pc := 73) (tgt := 110) X dJ40_checkInvariants_73 rfl ?_ ?_
  · exact vv_sub [] (by rfl) (B_J40_checkInvariants_110 X _)
  · refine vv_aload_n (pc := 76) X (kf := 0) (i := 0) rfl 0 rfl dJ40_checkInvariants_76 ?_
    refine vv_getI (pc := 77) X (fun _ z => by cases List.mem_singleton.mp z; exact fl_J40_7_33) dJ40_checkInvariants_77 (fun v1 => ?_)
    refine vv_aload_n (pc := 80) X (kf := 0) (i := 0) rfl 0 rfl dJ40_checkInvariants_80 ?_
    refine vv_getR (pc := 81) X (fun _ z => by cases List.mem_singleton.mp z; exact fl_J40_11_33) dJ40_checkInvariants_81 (fun v2 => ?_)
    refine vv_alen (pc := 84) X dJ40_checkInvariants_84 (fun v3 => ?_)
    refine vv_icmp_eq (pc := 85) (tgt := 110) X dJ40_checkInvariants_85 rfl ?_ ?_
    · exact vv_sub [] (by rfl) (B_J40_checkInvariants_110 X _)
    · refine vv_aload_n (pc := 88) X (kf := 0) (i := 0) rfl 0 rfl dJ40_checkInvariants_88 ?_
      refine vv_getR (pc := 89) X (fun _ z => by cases List.mem_singleton.mp z; exact fl_J40_11_33) dJ40_checkInvariants_89 (fun v4 => ?_)
      refine vv_aload_n (pc := 92) X (kf := 0) (i := 0) rfl 0 rfl dJ40_checkInvariants_92 ?_
      refine vv_getI (pc := 93) X (fun _ z => by cases List.mem_singleton.mp z; exact fl_J40_7_33) dJ40_checkInvariants_93 (fun v5 => ?_)
      refine vv_laload (pc := 96) X dJ40_checkInvariants_96 (fun v6 => ?_)
      refine vv_lconst (pc := 97) (v := 0) X (by decide) dJ40_checkInvariants_97 ?_
      refine vv_lcmp (pc := 98) X dJ40_checkInvariants_98 ?_
      refine vv_if_eq (pc := 99) (tgt := 110) X dJ40_checkInvariants_99 rfl ?_ ?_
      · exact vv_sub [] (by rfl) (B_J40_checkInvariants_110 X _)
      · exact vv_none
noncomputable def b_J40_checkInvariants_62 (h : HP) : Option ((Unit) × HP) :=
  none
theorem B_J40_checkInvariants_62 {M : hp_M} {G : va_G} {h0 : HP} (X : hp_X M G h0 "java/util/BitSet" "checkInvariants" cJ40_checkInvariants 1 none [] 0 0) (h : HP) : vv M G h0 1 (hp_End M G h0) jV h 62 [] [] (b_J40_checkInvariants_62 h) := by
  unfold b_J40_checkInvariants_62
  exact vv_none
noncomputable def b_J40_checkInvariants_37 (x0 : Option Nat) (h : HP) : Option ((Unit) × HP) :=
  iEQ 1 0
    ((rdI h x0 [33] 1).bind fun v7 =>
    iLT v7 0
      (b_J40_checkInvariants_62 h)
      ((rdI h x0 [33] 1).bind fun v8 =>
      (rdR h x0 [33] 0).bind fun v9 =>
      (alen h v9).bind fun v10 =>
      iLE v8 v10
        (b_J40_checkInvariants_70 x0 h)
        (b_J40_checkInvariants_62 h)))
    (b_J40_checkInvariants_70 x0 h)
theorem B_J40_checkInvariants_37 {M : hp_M} {G : va_G} {h0 : HP} (X : hp_X M G h0 "java/util/BitSet" "checkInvariants" cJ40_checkInvariants 1 none [] 0 0) (x0 : Option Nat) (h : HP) : vv M G h0 1 (hp_End M G h0) jV h 37 [(0, LR x0)] [] (b_J40_checkInvariants_37 x0 h) := by
  unfold b_J40_checkInvariants_37
  refine vv_gets (pc := 37) (w := LI 1) X (gs_10 _) rfl q2922 dJ40_checkInvariants_37 ?_
  refine vv_if_ne (pc := 40) (tgt := 70) X dJ40_checkInvariants_40 rfl ?_ ?_
  · exact B_J40_checkInvariants_70 X _ _
  · refine vv_aload_n (pc := 43) X (kf := 0) (i := 0) rfl 0 rfl dJ40_checkInvariants_43 ?_
    refine vv_getI (pc := 44) X (fun _ z => by cases List.mem_singleton.mp z; exact fl_J40_7_33) dJ40_checkInvariants_44 (fun v7 => ?_)
    refine vv_if_lt (pc := 47) (tgt := 62) X dJ40_checkInvariants_47 rfl ?_ ?_
    · exact vv_sub [] (by rfl) (B_J40_checkInvariants_62 X _)
    · refine vv_aload_n (pc := 50) X (kf := 0) (i := 0) rfl 0 rfl dJ40_checkInvariants_50 ?_
      refine vv_getI (pc := 51) X (fun _ z => by cases List.mem_singleton.mp z; exact fl_J40_7_33) dJ40_checkInvariants_51 (fun v8 => ?_)
      refine vv_aload_n (pc := 54) X (kf := 0) (i := 0) rfl 0 rfl dJ40_checkInvariants_54 ?_
      refine vv_getR (pc := 55) X (fun _ z => by cases List.mem_singleton.mp z; exact fl_J40_11_33) dJ40_checkInvariants_55 (fun v9 => ?_)
      refine vv_alen (pc := 58) X dJ40_checkInvariants_58 (fun v10 => ?_)
      refine vv_icmp_le (pc := 59) (tgt := 70) X dJ40_checkInvariants_59 rfl ?_ ?_
      · exact B_J40_checkInvariants_70 X _ _
      · exact vv_sub [] (by rfl) (B_J40_checkInvariants_62 X _)
noncomputable def f_J40_checkInvariants (a0 : Nat) (h : HP) : Option ((Unit) × HP) :=
  iEQ 1 0
    ((rdI h (some a0) [33] 1).bind fun v11 =>
    iEQ v11 0
      (b_J40_checkInvariants_37 (some a0) h)
      ((rdR h (some a0) [33] 0).bind fun v12 =>
      (rdI h (some a0) [33] 1).bind fun v13 =>
      (aldJ h v12 (v13 - 1)).bind fun v14 =>
      iEQ (lCmp v14 0) 0
        (none)
        (b_J40_checkInvariants_37 (some a0) h)))
    (b_J40_checkInvariants_37 (some a0) h)
theorem A_J40_checkInvariants {M : hp_M} {G : va_G} {h0 : HP} (X : hp_X M G h0 "java/util/BitSet" "checkInvariants" cJ40_checkInvariants 1 none [] 0 0) (a0 : Nat) (h : HP) : vv M G h0 1 (hp_End M G h0) jV h 0 [(0, LR (some a0))] [] (f_J40_checkInvariants a0 h) := by
  unfold f_J40_checkInvariants
  refine vv_gets (pc := 0) (w := LI 1) X (gs_10 _) rfl q2922 dJ40_checkInvariants_0 ?_
  refine vv_if_ne (pc := 3) (tgt := 37) X dJ40_checkInvariants_3 rfl ?_ ?_
  · exact B_J40_checkInvariants_37 X _ _
  · refine vv_aload_n (pc := 6) X (kf := 0) (i := 0) rfl 0 rfl dJ40_checkInvariants_6 ?_
    refine vv_getI (pc := 7) X (fun _ z => by cases List.mem_singleton.mp z; exact fl_J40_7_33) dJ40_checkInvariants_7 (fun v11 => ?_)
    refine vv_if_eq (pc := 10) (tgt := 37) X dJ40_checkInvariants_10 rfl ?_ ?_
    · exact B_J40_checkInvariants_37 X _ _
    · refine vv_aload_n (pc := 13) X (kf := 0) (i := 0) rfl 0 rfl dJ40_checkInvariants_13 ?_
      refine vv_getR (pc := 14) X (fun _ z => by cases List.mem_singleton.mp z; exact fl_J40_11_33) dJ40_checkInvariants_14 (fun v12 => ?_)
      refine vv_aload_n (pc := 17) X (kf := 0) (i := 0) rfl 0 rfl dJ40_checkInvariants_17 ?_
      refine vv_getI (pc := 18) X (fun _ z => by cases List.mem_singleton.mp z; exact fl_J40_7_33) dJ40_checkInvariants_18 (fun v13 => ?_)
      refine vv_iconst (pc := 21) X dJ40_checkInvariants_21 ?_
      refine vv_isub (pc := 22) X dJ40_checkInvariants_22 ?_
      refine vv_laload (pc := 23) X dJ40_checkInvariants_23 (fun v14 => ?_)
      refine vv_lconst (pc := 24) (v := 0) X (by decide) dJ40_checkInvariants_24 ?_
      refine vv_lcmp (pc := 25) X dJ40_checkInvariants_25 ?_
      refine vv_if_ne (pc := 26) (tgt := 37) X dJ40_checkInvariants_26 rfl ?_ ?_
      · exact B_J40_checkInvariants_37 X _ _
      · exact vv_none
theorem m_J40_checkInvariants {l : Launch} (hl : l.stackTraces = false) {G : va_G} (a0 : Nat) (h : HP) : ∀ r hf, f_J40_checkInvariants a0 h = some (r, hf) → Ct l yJ40_checkInvariants (ws_ yJ40_checkInvariants cJ40_checkInvariants 1 none) 0 0 G h [.ref a0] (jV r) hf :=
  zz_ofW hl (by decide +kernel) (lv := [(0, LR (some a0))]) (by simp [lv_args, lvL, lvV, zz_rfc, zz_rfs, zz_ci, zz_cr, zz_cj, zz_cf, zz_cd]) (by simp [lg_sl, zz_rfc, zz_ci, zz_cr, zz_cj, zz_cf, zz_cd]) (fun _ X => A_J40_checkInvariants X a0 h)
-- J40_set_2 java/util/BitSet.set(I)V
noncomputable def f_J40_set_2 (a0 : Nat) (a1 : Int) (h : HP) : Option ((Unit) × HP) :=
  iLE 0 a1
    (hb (f_J40_wordIndex a1 h) fun v1 h2 =>
    (rcv h2 (some a0) [33]).bind fun b5 =>
    hb (f_J40_expandTo b5 v1 h2) fun _ h4 =>
    (rdR h4 (some a0) [33] 0).bind fun v7 =>
    (aldJ h4 v7 v1).bind fun v8 =>
    (astJ h4 v7 v1 (v8 ||| (lShl 1 a1))).bind fun h9 =>
    (rcv h9 (some a0) [33]).bind fun b12 =>
    hb (f_J40_checkInvariants b12 h9) fun _ h11 =>
    some ((), h11))
    (none)
theorem A_J40_set_2 {M : hp_M} {G : va_G} {h0 : HP} (X : hp_X M G h0 "java/util/BitSet" "set" cJ40_set_2 3 none [] 4 190) (a0 : Nat) (a1 : Int) (h : HP) : vv M G h0 3 (hp_End M G h0) jV h 0 [(0, LR (some a0)), (1, LI a1)] [] (f_J40_set_2 a0 a1 h) := by
  unfold f_J40_set_2
  refine vv_iload_n (pc := 0) X (kf := 1) (i := 1) rfl 1 rfl dJ40_set_2_0 ?_
  refine vv_if_ge (pc := 1) (tgt := 31) X dJ40_set_2_1 rfl ?_ ?_
  · refine vv_iload_n (pc := 31) X (kf := 1) (i := 1) rfl 1 rfl dJ40_set_2_31 ?_
    refine vv_callI (pc := 32) (rest := []) (by rfl) (fun r8 k8 e8 => zz_callS X (m_J40_wordIndex (hlM X) _ _ _ _ e8) q2861 q2862 q204 q2863 nh_J40 rfl (by decide) (by decide) (Nat.le_of_ble_eq_true rfl) dJ40_set_2_32) (fun v1 h2 => ?_)
    refine vv_istore_n (pc := 35) (lv' := [(2, LI v1), (0, LR (some a0)), (1, LI a1)]) X (kf := 2) (i := 2) rfl (by decide) rfl dJ40_set_2_35 ?_
    refine vv_aload_n (pc := 36) X (kf := 0) (i := 0) rfl 1 rfl dJ40_set_2_36 ?_
    refine vv_iload_n (pc := 37) X (kf := 2) (i := 2) rfl 0 rfl dJ40_set_2_37 ?_
    refine vv_rcv (fun b5 t9 c9 fs9 e6 g9 k9 => ?_)
    cases List.mem_singleton.mp k9
    refine vv_callV (pc := 38) (rest := []) (by rw [e6]; rfl) (fun r8 k8 e8 => zz_callV X (m_J40_expandTo (hlM X) _ _ _ _ _ e8) g9 rfl rfl q2900 q2902 qs40 q204 q2903 nh_J40 rfl (by decide) (by decide) (Nat.le_of_ble_eq_true rfl) dJ40_set_2_38) (fun v3 h4 => ?_)
    refine vv_aload_n (pc := 41) X (kf := 0) (i := 0) rfl 1 rfl dJ40_set_2_41 ?_
    refine vv_getR (pc := 42) X (fun _ z => by cases List.mem_singleton.mp z; exact fl_J40_11_33) dJ40_set_2_42 (fun v7 => ?_)
    refine vv_iload_n (pc := 45) X (kf := 2) (i := 2) rfl 0 rfl dJ40_set_2_45 ?_
    refine vv_dup2 (pc := 46) X rfl rfl dJ40_set_2_46 ?_
    refine vv_laload (pc := 47) X dJ40_set_2_47 (fun v8 => ?_)
    refine vv_lconst (pc := 48) (v := 1) X (by decide) dJ40_set_2_48 ?_
    refine vv_iload_n (pc := 49) X (kf := 1) (i := 1) rfl 2 rfl dJ40_set_2_49 ?_
    refine vv_lshl (pc := 50) X dJ40_set_2_50 ?_
    refine vv_lor (pc := 51) X dJ40_set_2_51 ?_
    refine vv_lastore (pc := 52) X dJ40_set_2_52 (fun h9 => ?_)
    refine vv_aload_n (pc := 53) X (kf := 0) (i := 0) rfl 1 rfl dJ40_set_2_53 ?_
    refine vv_rcv (fun b12 t9 c9 fs9 e13 g9 k9 => ?_)
    cases List.mem_singleton.mp k9
    refine vv_callV (pc := 54) (rest := []) (by rw [e13]; rfl) (fun r8 k8 e8 => zz_callV X (m_J40_checkInvariants (hlM X) _ _ _ _ e8) g9 rfl rfl q2918 q2920 qs42 q204 q2921 nh_J40 rfl (by decide) (by decide) (Nat.le_of_ble_eq_true rfl) dJ40_set_2_54) (fun v10 h11 => ?_)
    exact vv_vreturn X rfl rfl dJ40_set_2_57
  · exact vv_none
theorem m_J40_set_2 {l : Launch} (hl : l.stackTraces = false) {G : va_G} (a0 : Nat) (a1 : Int) (h : HP) : ∀ r hf, f_J40_set_2 a0 a1 h = some (r, hf) → Ct l yJ40_set_2 (ws_ yJ40_set_2 cJ40_set_2 3 none) 4 190 G h [.ref a0, .int (iI a1)] (jV r) hf :=
  zz_ofW hl (by decide +kernel) (lv := [(0, LR (some a0)), (1, LI a1)]) (by simp [lv_args, lvL, lvV, zz_rfc, zz_rfs, zz_ci, zz_cr, zz_cj, zz_cf, zz_cd]) (by simp [lg_sl, zz_rfc, zz_ci, zz_cr, zz_cj, zz_cf, zz_cd]) (fun _ X => A_J40_set_2 X a0 a1 h)
-- X2_candidates RenamedWords$Desk.candidates(I)Ljava/util/BitSet;
noncomputable def b_X2_candidates_102 (r35 : Option Nat → Option Nat → Option Nat → Option Nat → Int → HP → Option ((Option Nat) × HP)) (x0 : Option Nat) (x2 : Option Nat) (x3 : Option Nat) (x4 : Option Nat) (x5 : Int) (h : HP) : Option ((Option Nat) × HP) :=
  r35 x0 x2 x3 x4 (x5 + 1) h
theorem B_X2_candidates_102 {M : hp_M} {G : va_G} {h0 : HP} (X : hp_X M G h0 "RenamedWords$Desk" "candidates" cX2_candidates 6 (some (.object "java/util/BitSet")) [] 5 220) (r35 : Option Nat → Option Nat → Option Nat → Option Nat → Int → HP → Option ((Option Nat) × HP)) (hr35 : ∀ (y0 : Option Nat) (y2 : Option Nat) (y3 : Option Nat) (y4 : Option Nat) (y5 : Int) (h : HP), vv M G h0 6 (hp_End M G h0) jR h 35 [(0, LR y0), (2, LR y2), (3, LR y3), (4, LR y4), (5, LI y5)] [] (r35 y0 y2 y3 y4 y5 h)) (x0 : Option Nat) (x2 : Option Nat) (x3 : Option Nat) (x4 : Option Nat) (x5 : Int) (h : HP) : vv M G h0 6 (hp_End M G h0) jR h 102 [(0, LR x0), (2, LR x2), (3, LR x3), (4, LR x4), (5, LI x5)] [] (b_X2_candidates_102 r35 x0 x2 x3 x4 x5 h) := by
  unfold b_X2_candidates_102
  refine vv_iinc (pc := 102) (lv' := [(5, LI (x5 + 1)), (0, LR x0), (2, LR x2), (3, LR x3), (4, LR x4)]) X 4 rfl (by decide) rfl dX2_candidates_102 ?_
  refine vv_goto (pc := 105) (tgt := 35) X dX2_candidates_105 rfl ?_
  exact vv_sub [1, 2, 3, 4, 0] (by rfl) (hr35 _ _ _ _ _ _)
noncomputable def c_X2_candidates_35 (r35 : Option Nat → Option Nat → Option Nat → Option Nat → Int → HP → Option ((Option Nat) × HP)) (x0 : Option Nat) (x2 : Option Nat) (x3 : Option Nat) (x4 : Option Nat) (x5 : Int) (h : HP) : Option ((Option Nat) × HP) :=
  (rcv h x2 [11]).bind fun b17 =>
  hb (f_X14_many b17 h) fun v15 h16 =>
  (rdR h16 x0 [1] 0).bind fun v19 =>
  (rdI h16 v19 [3] 3).bind fun v20 =>
  iLT v20 (x5 + v15)
    (some (x3, h16))
    ((rdR h16 x0 [1] 9).bind fun v21 =>
    (rdR h16 x0 [1] 5).bind fun v22 =>
    (rdR h16 x0 [1] 0).bind fun v23 =>
    (rcv h16 x2 [11]).bind fun b26 =>
    hb (f_X14_many b26 h16) fun v24 h25 =>
    (rcv h25 v22 [5]).bind fun b30 =>
    hb (f_X7_lays b30 v23 x5 v24 h25) fun v28 h29 =>
    (rdI h29 x0 [1] 7).bind fun v32 =>
    (rcv h29 v21 [6]).bind fun b35 =>
    hb (f_X8_of b35 v28 v32 h29) fun v33 h34 =>
    (rcv h34 x2 [11]).bind fun b39 =>
    hb (f_X14_many b39 h34) fun v37 h38 =>
    (rdI h38 x0 [1] 7).bind fun v41 =>
    (rcv h38 v33 [6]).bind fun b44 =>
    hb (f_X8_isLike b44 x4 v37 v41 h38) fun v42 h43 =>
    iEQ v42 0
      (b_X2_candidates_102 r35 x0 x2 x3 x4 x5 h43)
      ((rcv h43 x3 [33]).bind fun b48 =>
      hb (f_J40_set_2 b48 x5 h43) fun _ h47 =>
      b_X2_candidates_102 r35 x0 x2 x3 x4 x5 h47))
noncomputable def b_X2_candidates_35 : Option Nat → Option Nat → Option Nat → Option Nat → Int → HP → Option ((Option Nat) × HP) := fx (fun _ _ _ _ _ _ => none) (c_X2_candidates_35) FU
theorem C_X2_candidates_35 {M : hp_M} {G : va_G} {h0 : HP} (X : hp_X M G h0 "RenamedWords$Desk" "candidates" cX2_candidates 6 (some (.object "java/util/BitSet")) [] 5 220) (r35 : Option Nat → Option Nat → Option Nat → Option Nat → Int → HP → Option ((Option Nat) × HP)) (hr35 : ∀ (y0 : Option Nat) (y2 : Option Nat) (y3 : Option Nat) (y4 : Option Nat) (y5 : Int) (h : HP), vv M G h0 6 (hp_End M G h0) jR h 35 [(0, LR y0), (2, LR y2), (3, LR y3), (4, LR y4), (5, LI y5)] [] (r35 y0 y2 y3 y4 y5 h)) (x0 : Option Nat) (x2 : Option Nat) (x3 : Option Nat) (x4 : Option Nat) (x5 : Int) (h : HP) : vv M G h0 6 (hp_End M G h0) jR h 35 [(0, LR x0), (2, LR x2), (3, LR x3), (4, LR x4), (5, LI x5)] [] (c_X2_candidates_35 r35 x0 x2 x3 x4 x5 h) := by
  unfold c_X2_candidates_35
  refine vv_iload (pc := 35) X 4 rfl dX2_candidates_35 ?_
  refine vv_aload_n (pc := 37) X (kf := 2) (i := 2) rfl 1 rfl dX2_candidates_37 ?_
  refine vv_rcv (fun b17 t9 c9 fs9 e18 g9 k9 => ?_)
  cases List.mem_singleton.mp k9
  refine vv_callI (pc := 38) (rest := [LI x5]) (by rw [e18]; rfl) (fun r8 k8 e8 => zz_callV X (m_X14_many (hlM X) _ _ _ _ e8) g9 rfl rfl q2600 q2601 q2602 q174 q2603 nh_X14 rfl (by decide) (by decide) (Nat.le_of_ble_eq_true rfl) dX2_candidates_38) (fun v15 h16 => ?_)
  refine vv_iadd (pc := 41) X dX2_candidates_41 ?_
  refine vv_aload_n (pc := 42) X (kf := 0) (i := 0) rfl 0 rfl dX2_candidates_42 ?_
  refine vv_getR (pc := 43) X (fun _ z => by cases List.mem_singleton.mp z; exact fl_X2_12_1) dX2_candidates_43 (fun v19 => ?_)
  refine vv_getI (pc := 46) X (fun _ z => by cases List.mem_singleton.mp z; exact fl_X2_123_3) dX2_candidates_46 (fun v20 => ?_)
  refine vv_icmp_gt (pc := 49) (tgt := 108) X dX2_candidates_49 rfl ?_ ?_
  · refine vv_aload_n (pc := 108) X (kf := 3) (i := 3) rfl 2 rfl dX2_candidates_108 ?_
    exact vv_aretO X rfl rfl dX2_candidates_109
  · refine vv_aload_n (pc := 52) X (kf := 0) (i := 0) rfl 0 rfl dX2_candidates_52 ?_
    refine vv_getR (pc := 53) X (fun _ z => by cases List.mem_singleton.mp z; exact fl_X2_52_1) dX2_candidates_53 (fun v21 => ?_)
    refine vv_aload_n (pc := 56) X (kf := 0) (i := 0) rfl 0 rfl dX2_candidates_56 ?_
    refine vv_getR (pc := 57) X (fun _ z => by cases List.mem_singleton.mp z; exact fl_X2_38_1) dX2_candidates_57 (fun v22 => ?_)
    refine vv_aload_n (pc := 60) X (kf := 0) (i := 0) rfl 0 rfl dX2_candidates_60 ?_
    refine vv_getR (pc := 61) X (fun _ z => by cases List.mem_singleton.mp z; exact fl_X2_12_1) dX2_candidates_61 (fun v23 => ?_)
    refine vv_iload (pc := 64) X 4 rfl dX2_candidates_64 ?_
    refine vv_aload_n (pc := 66) X (kf := 2) (i := 2) rfl 1 rfl dX2_candidates_66 ?_
    refine vv_rcv (fun b26 t9 c9 fs9 e27 g9 k9 => ?_)
    cases List.mem_singleton.mp k9
    refine vv_callI (pc := 67) (rest := [LI x5, LR v23, LR v22, LR v21]) (by rw [e27]; rfl) (fun r8 k8 e8 => zz_callV X (m_X14_many (hlM X) _ _ _ _ e8) g9 rfl rfl q2600 q2601 q2602 q174 q2603 nh_X14 rfl (by decide) (by decide) (Nat.le_of_ble_eq_true rfl) dX2_candidates_67) (fun v24 h25 => ?_)
    refine vv_rcv (fun b30 t9 c9 fs9 e31 g9 k9 => ?_)
    cases List.mem_singleton.mp k9
    refine vv_callR (pc := 70) (rest := [LR v21]) (by rw [e31]; rfl) (fun r8 k8 e8 => zz_callV X (m_X7_lays (hlM X) _ _ _ _ _ _ _ e8) g9 rfl rfl q2604 q2605 q2606 q159 q2607 nh_X7 rfl (by decide) (by decide) (Nat.le_of_ble_eq_true rfl) dX2_candidates_70) (fun v28 h29 => ?_)
    refine vv_aload_n (pc := 73) X (kf := 0) (i := 0) rfl 0 rfl dX2_candidates_73 ?_
    refine vv_getI (pc := 74) X (fun _ z => by cases List.mem_singleton.mp z; exact fl_X2_108_1) dX2_candidates_74 (fun v32 => ?_)
    refine vv_rcv (fun b35 t9 c9 fs9 e36 g9 k9 => ?_)
    cases List.mem_singleton.mp k9
    refine vv_callR (pc := 77) (rest := []) (by rw [e36]; rfl) (fun r8 k8 e8 => zz_callV X (m_X8_of (hlM X) _ _ _ _ _ _ e8) g9 rfl rfl q3131 q3132 q3133 q160 q3134 nh_X8 rfl (by decide) (by decide) (Nat.le_of_ble_eq_true rfl) dX2_candidates_77) (fun v33 h34 => ?_)
    refine vv_aload (pc := 80) X 3 rfl dX2_candidates_80 ?_
    refine vv_aload_n (pc := 82) X (kf := 2) (i := 2) rfl 1 rfl dX2_candidates_82 ?_
    refine vv_rcv (fun b39 t9 c9 fs9 e40 g9 k9 => ?_)
    cases List.mem_singleton.mp k9
    refine vv_callI (pc := 83) (rest := [LR x4, LR v33]) (by rw [e40]; rfl) (fun r8 k8 e8 => zz_callV X (m_X14_many (hlM X) _ _ _ _ e8) g9 rfl rfl q2600 q2601 q2602 q174 q2603 nh_X14 rfl (by decide) (by decide) (Nat.le_of_ble_eq_true rfl) dX2_candidates_83) (fun v37 h38 => ?_)
    refine vv_aload_n (pc := 86) X (kf := 0) (i := 0) rfl 0 rfl dX2_candidates_86 ?_
    refine vv_getI (pc := 87) X (fun _ z => by cases List.mem_singleton.mp z; exact fl_X2_108_1) dX2_candidates_87 (fun v41 => ?_)
    refine vv_rcv (fun b44 t9 c9 fs9 e45 g9 k9 => ?_)
    cases List.mem_singleton.mp k9
    refine vv_callI (pc := 90) (rest := []) (by rw [e45]; rfl) (fun r8 k8 e8 => zz_callV X (m_X8_isLike (hlM X) _ _ _ _ _ _ _ e8) g9 rfl rfl q3137 q3138 q3139 q160 q3140 nh_X8 rfl (by decide) (by decide) (Nat.le_of_ble_eq_true rfl) dX2_candidates_90) (fun v42 h43 => ?_)
    refine vv_if_eq (pc := 93) (tgt := 102) X dX2_candidates_93 rfl ?_ ?_
    · exact B_X2_candidates_102 X r35 hr35 _ _ _ _ _ _
    · refine vv_aload_n (pc := 96) X (kf := 3) (i := 3) rfl 2 rfl dX2_candidates_96 ?_
      refine vv_iload (pc := 97) X 4 rfl dX2_candidates_97 ?_
      refine vv_rcv (fun b48 t9 c9 fs9 e49 g9 k9 => ?_)
      cases List.mem_singleton.mp k9
      refine vv_callV (pc := 99) (rest := []) (by rw [e49]; rfl) (fun r8 k8 e8 => zz_callV X (m_J40_set_2 (hlM X) _ _ _ _ _ e8) g9 rfl rfl q3141 q3142 q3143 q204 q3144 nh_J40 rfl (by decide) (by decide) (Nat.le_of_ble_eq_true rfl) dX2_candidates_99) (fun v46 h47 => ?_)
      exact B_X2_candidates_102 X r35 hr35 _ _ _ _ _ _
theorem B_X2_candidates_35 {M : hp_M} {G : va_G} {h0 : HP} (X : hp_X M G h0 "RenamedWords$Desk" "candidates" cX2_candidates 6 (some (.object "java/util/BitSet")) [] 5 220) : ∀ (x0 : Option Nat) (x2 : Option Nat) (x3 : Option Nat) (x4 : Option Nat) (x5 : Int) (h : HP), vv M G h0 6 (hp_End M G h0) jR h 35 [(0, LR x0), (2, LR x2), (3, LR x3), (4, LR x4), (5, LI x5)] [] (b_X2_candidates_35 x0 x2 x3 x4 x5 h) := by
  unfold b_X2_candidates_35
  generalize FU = n
  induction n with
  | zero => intro x0 x2 x3 x4 x5 h; exact vv_none
  | succ n ih => exact C_X2_candidates_35 X _ ih
noncomputable def f_X2_candidates (a0 : Nat) (a1 : Int) (h : HP) : Option ((Option Nat) × HP) :=
  (rdR h (some a0) [1] 2).bind fun v1 =>
  (aldR h "RenamedWords$Word" v1 a1).bind fun v2 =>
  hb (nwO h (hp_n h + 2) 33 [.inr (.inl none), .inl 0, .inl 0] 3) fun v3 h4 =>
  (v3).bind fun b7 =>
  hb (f_J40_init b7 200 h4) fun _ h6 =>
  (rdR h6 (some a0) [1] 8).bind fun v9 =>
  (rdI h6 (some a0) [1] 7).bind fun v10 =>
  (rcv h6 v9 [6]).bind fun b13 =>
  hb (f_X8_of b13 v2 v10 h6) fun v11 h12 =>
  b_X2_candidates_35 (some a0) v2 v3 v11 0 h12
theorem A_X2_candidates {M : hp_M} {G : va_G} {h0 : HP} (X : hp_X M G h0 "RenamedWords$Desk" "candidates" cX2_candidates 6 (some (.object "java/util/BitSet")) [] 5 220) (a0 : Nat) (a1 : Int) (h : HP) : vv M G h0 6 (hp_End M G h0) jR h 0 [(0, LR (some a0)), (1, LI a1)] [] (f_X2_candidates a0 a1 h) := by
  unfold f_X2_candidates
  refine vv_aload_n (pc := 0) X (kf := 0) (i := 0) rfl 0 rfl dX2_candidates_0 ?_
  refine vv_getR (pc := 1) X (fun _ z => by cases List.mem_singleton.mp z; exact fl_X2_20_1) dX2_candidates_1 (fun v1 => ?_)
  refine vv_iload_n (pc := 4) X (kf := 1) (i := 1) rfl 1 rfl dX2_candidates_4 ?_
  refine vv_aaload (pc := 5) X dX2_candidates_5 (fun v2 => ?_)
  refine vv_astore_n (pc := 6) (lv' := [(2, LR v2), (0, LR (some a0)), (1, LI a1)]) X (kf := 2) (i := 2) rfl (by decide) rfl dX2_candidates_6 ?_
  refine vv_new (pc := 7) X tyJ40 rfl in_J40 tyJ40_ok q3129 q2852 q204 ndJ40 (by decide) dX2_candidates_7 (fun v3 h4 => ?_)
  refine vv_dup (pc := 10) X rfl dX2_candidates_10 ?_
  refine vv_sipush (pc := 11) X (by decide) dX2_candidates_11 ?_
  refine vv_bnd (fun b7 e8 => ?_)
  refine vv_callV (pc := 14) (rest := [LR v3]) (by rw [e8]; rfl) (fun r8 k8 e8 => zz_callI X (m_J40_init (hlM X) _ _ _ _ _ e8) q3130 q2854 q204 q2855 rfl nh_J40 rfl (by decide) (by decide) (Nat.le_of_ble_eq_true rfl) dX2_candidates_14) (fun v5 h6 => ?_)
  refine vv_astore_n (pc := 17) (lv' := [(3, LR v3), (2, LR v2), (0, LR (some a0)), (1, LI a1)]) X (kf := 3) (i := 3) rfl (by decide) rfl dX2_candidates_17 ?_
  refine vv_aload_n (pc := 18) X (kf := 0) (i := 0) rfl 2 rfl dX2_candidates_18 ?_
  refine vv_getR (pc := 19) X (fun _ z => by cases List.mem_singleton.mp z; exact fl_X2_48_1) dX2_candidates_19 (fun v9 => ?_)
  refine vv_aload_n (pc := 22) X (kf := 2) (i := 2) rfl 1 rfl dX2_candidates_22 ?_
  refine vv_aload_n (pc := 23) X (kf := 0) (i := 0) rfl 2 rfl dX2_candidates_23 ?_
  refine vv_getI (pc := 24) X (fun _ z => by cases List.mem_singleton.mp z; exact fl_X2_108_1) dX2_candidates_24 (fun v10 => ?_)
  refine vv_rcv (fun b13 t9 c9 fs9 e14 g9 k9 => ?_)
  cases List.mem_singleton.mp k9
  refine vv_callR (pc := 27) (rest := []) (by rw [e14]; rfl) (fun r8 k8 e8 => zz_callV X (m_X8_of (hlM X) _ _ _ _ _ _ e8) g9 rfl rfl q3131 q3132 q3133 q160 q3134 nh_X8 rfl (by decide) (by decide) (Nat.le_of_ble_eq_true rfl) dX2_candidates_27) (fun v11 h12 => ?_)
  refine vv_astore (pc := 30) (lv' := [(4, LR v11), (3, LR v3), (2, LR v2), (0, LR (some a0)), (1, LI a1)]) X (by decide) rfl dX2_candidates_30 ?_
  refine vv_iconst (pc := 32) X dX2_candidates_32 ?_
  refine vv_istore (pc := 33) (lv' := [(5, LI 0), (4, LR v11), (3, LR v3), (2, LR v2), (0, LR (some a0)), (1, LI a1)]) X (by decide) rfl dX2_candidates_33 ?_
  exact vv_sub [4, 3, 2, 1, 0] (by rfl) (B_X2_candidates_35 X _ _ _ _ _ _)
theorem m_X2_candidates {l : Launch} (hl : l.stackTraces = false) {G : va_G} (a0 : Nat) (a1 : Int) (h : HP) : ∀ r hf, f_X2_candidates a0 a1 h = some (r, hf) → Ct l yX2_candidates (ws_ yX2_candidates cX2_candidates 6 (some (.object "java/util/BitSet"))) 5 220 G h [.ref a0, .int (iI a1)] (jR r) hf :=
  zz_ofW hl (by decide +kernel) (lv := [(0, LR (some a0)), (1, LI a1)]) (by simp [lv_args, lvL, lvV, zz_rfc, zz_rfs, zz_ci, zz_cr, zz_cj, zz_cf, zz_cd]) (by simp [lg_sl, zz_rfc, zz_ci, zz_cr, zz_cj, zz_cf, zz_cd]) (fun _ X => A_X2_candidates X a0 a1 h)
-- J25_bitCount java/lang/Long.bitCount(J)I
noncomputable def f_J25_bitCount (a1 : Int64) (h : HP) : Option ((Int) × HP) :=
  some ((iAnd (lI ((((((((a1 - ((lUshr a1 1) &&& (6148914691236517205 : Int64))) &&& (3689348814741910323 : Int64)) + ((lUshr (a1 - ((lUshr a1 1) &&& (6148914691236517205 : Int64))) 2) &&& (3689348814741910323 : Int64))) + (lUshr (((a1 - ((lUshr a1 1) &&& (6148914691236517205 : Int64))) &&& (3689348814741910323 : Int64)) + ((lUshr (a1 - ((lUshr a1 1) &&& (6148914691236517205 : Int64))) 2) &&& (3689348814741910323 : Int64))) 4)) &&& (1085102592571150095 : Int64)) + (lUshr (((((a1 - ((lUshr a1 1) &&& (6148914691236517205 : Int64))) &&& (3689348814741910323 : Int64)) + ((lUshr (a1 - ((lUshr a1 1) &&& (6148914691236517205 : Int64))) 2) &&& (3689348814741910323 : Int64))) + (lUshr (((a1 - ((lUshr a1 1) &&& (6148914691236517205 : Int64))) &&& (3689348814741910323 : Int64)) + ((lUshr (a1 - ((lUshr a1 1) &&& (6148914691236517205 : Int64))) 2) &&& (3689348814741910323 : Int64))) 4)) &&& (1085102592571150095 : Int64)) 8)) + (lUshr ((((((a1 - ((lUshr a1 1) &&& (6148914691236517205 : Int64))) &&& (3689348814741910323 : Int64)) + ((lUshr (a1 - ((lUshr a1 1) &&& (6148914691236517205 : Int64))) 2) &&& (3689348814741910323 : Int64))) + (lUshr (((a1 - ((lUshr a1 1) &&& (6148914691236517205 : Int64))) &&& (3689348814741910323 : Int64)) + ((lUshr (a1 - ((lUshr a1 1) &&& (6148914691236517205 : Int64))) 2) &&& (3689348814741910323 : Int64))) 4)) &&& (1085102592571150095 : Int64)) + (lUshr (((((a1 - ((lUshr a1 1) &&& (6148914691236517205 : Int64))) &&& (3689348814741910323 : Int64)) + ((lUshr (a1 - ((lUshr a1 1) &&& (6148914691236517205 : Int64))) 2) &&& (3689348814741910323 : Int64))) + (lUshr (((a1 - ((lUshr a1 1) &&& (6148914691236517205 : Int64))) &&& (3689348814741910323 : Int64)) + ((lUshr (a1 - ((lUshr a1 1) &&& (6148914691236517205 : Int64))) 2) &&& (3689348814741910323 : Int64))) 4)) &&& (1085102592571150095 : Int64)) 8)) 16)) + (lUshr (((((((a1 - ((lUshr a1 1) &&& (6148914691236517205 : Int64))) &&& (3689348814741910323 : Int64)) + ((lUshr (a1 - ((lUshr a1 1) &&& (6148914691236517205 : Int64))) 2) &&& (3689348814741910323 : Int64))) + (lUshr (((a1 - ((lUshr a1 1) &&& (6148914691236517205 : Int64))) &&& (3689348814741910323 : Int64)) + ((lUshr (a1 - ((lUshr a1 1) &&& (6148914691236517205 : Int64))) 2) &&& (3689348814741910323 : Int64))) 4)) &&& (1085102592571150095 : Int64)) + (lUshr (((((a1 - ((lUshr a1 1) &&& (6148914691236517205 : Int64))) &&& (3689348814741910323 : Int64)) + ((lUshr (a1 - ((lUshr a1 1) &&& (6148914691236517205 : Int64))) 2) &&& (3689348814741910323 : Int64))) + (lUshr (((a1 - ((lUshr a1 1) &&& (6148914691236517205 : Int64))) &&& (3689348814741910323 : Int64)) + ((lUshr (a1 - ((lUshr a1 1) &&& (6148914691236517205 : Int64))) 2) &&& (3689348814741910323 : Int64))) 4)) &&& (1085102592571150095 : Int64)) 8)) + (lUshr ((((((a1 - ((lUshr a1 1) &&& (6148914691236517205 : Int64))) &&& (3689348814741910323 : Int64)) + ((lUshr (a1 - ((lUshr a1 1) &&& (6148914691236517205 : Int64))) 2) &&& (3689348814741910323 : Int64))) + (lUshr (((a1 - ((lUshr a1 1) &&& (6148914691236517205 : Int64))) &&& (3689348814741910323 : Int64)) + ((lUshr (a1 - ((lUshr a1 1) &&& (6148914691236517205 : Int64))) 2) &&& (3689348814741910323 : Int64))) 4)) &&& (1085102592571150095 : Int64)) + (lUshr (((((a1 - ((lUshr a1 1) &&& (6148914691236517205 : Int64))) &&& (3689348814741910323 : Int64)) + ((lUshr (a1 - ((lUshr a1 1) &&& (6148914691236517205 : Int64))) 2) &&& (3689348814741910323 : Int64))) + (lUshr (((a1 - ((lUshr a1 1) &&& (6148914691236517205 : Int64))) &&& (3689348814741910323 : Int64)) + ((lUshr (a1 - ((lUshr a1 1) &&& (6148914691236517205 : Int64))) 2) &&& (3689348814741910323 : Int64))) 4)) &&& (1085102592571150095 : Int64)) 8)) 16)) 32))) 127), h)
theorem A_J25_bitCount {M : hp_M} {G : va_G} {h0 : HP} (X : hp_X M G h0 "java/lang/Long" "bitCount" cJ25_bitCount 2 (some .int) [] 0 0) (a1 : Int64) (h : HP) : vv M G h0 2 (hp_End M G h0) jI h 0 [(0, LJ a1)] [] (f_J25_bitCount a1 h) := by
  unfold f_J25_bitCount
  refine vv_lload_n (pc := 0) X (kf := 0) (i := 0) rfl 0 rfl dJ25_bitCount_0 ?_
  refine vv_lload_n (pc := 1) X (kf := 0) (i := 0) rfl 0 rfl dJ25_bitCount_1 ?_
  refine vv_iconst (pc := 2) X dJ25_bitCount_2 ?_
  refine vv_lushr (pc := 3) X dJ25_bitCount_3 ?_
  refine vv_ldc2 (pc := 4) X q2931 dJ25_bitCount_4 ?_
  refine vv_land (pc := 7) X dJ25_bitCount_7 ?_
  refine vv_lsub (pc := 8) X dJ25_bitCount_8 ?_
  refine vv_lstore_n (pc := 9) (lv' := [(0, LJ (a1 - ((lUshr a1 1) &&& (6148914691236517205 : Int64))))]) X (kf := 0) (i := 0) rfl (by decide) rfl dJ25_bitCount_9 ?_
  refine vv_lload_n (pc := 10) X (kf := 0) (i := 0) rfl 0 rfl dJ25_bitCount_10 ?_
  refine vv_ldc2 (pc := 11) X q2932 dJ25_bitCount_11 ?_
  refine vv_land (pc := 14) X dJ25_bitCount_14 ?_
  refine vv_lload_n (pc := 15) X (kf := 0) (i := 0) rfl 0 rfl dJ25_bitCount_15 ?_
  refine vv_iconst (pc := 16) X dJ25_bitCount_16 ?_
  refine vv_lushr (pc := 17) X dJ25_bitCount_17 ?_
  refine vv_ldc2 (pc := 18) X q2932 dJ25_bitCount_18 ?_
  refine vv_land (pc := 21) X dJ25_bitCount_21 ?_
  refine vv_ladd (pc := 22) X dJ25_bitCount_22 ?_
  refine vv_lstore_n (pc := 23) (lv' := [(0, LJ (((a1 - ((lUshr a1 1) &&& (6148914691236517205 : Int64))) &&& (3689348814741910323 : Int64)) + ((lUshr (a1 - ((lUshr a1 1) &&& (6148914691236517205 : Int64))) 2) &&& (3689348814741910323 : Int64))))]) X (kf := 0) (i := 0) rfl (by decide) rfl dJ25_bitCount_23 ?_
  refine vv_lload_n (pc := 24) X (kf := 0) (i := 0) rfl 0 rfl dJ25_bitCount_24 ?_
  refine vv_lload_n (pc := 25) X (kf := 0) (i := 0) rfl 0 rfl dJ25_bitCount_25 ?_
  refine vv_iconst (pc := 26) X dJ25_bitCount_26 ?_
  refine vv_lushr (pc := 27) X dJ25_bitCount_27 ?_
  refine vv_ladd (pc := 28) X dJ25_bitCount_28 ?_
  refine vv_ldc2 (pc := 29) X q2933 dJ25_bitCount_29 ?_
  refine vv_land (pc := 32) X dJ25_bitCount_32 ?_
  refine vv_lstore_n (pc := 33) (lv' := [(0, LJ (((((a1 - ((lUshr a1 1) &&& (6148914691236517205 : Int64))) &&& (3689348814741910323 : Int64)) + ((lUshr (a1 - ((lUshr a1 1) &&& (6148914691236517205 : Int64))) 2) &&& (3689348814741910323 : Int64))) + (lUshr (((a1 - ((lUshr a1 1) &&& (6148914691236517205 : Int64))) &&& (3689348814741910323 : Int64)) + ((lUshr (a1 - ((lUshr a1 1) &&& (6148914691236517205 : Int64))) 2) &&& (3689348814741910323 : Int64))) 4)) &&& (1085102592571150095 : Int64)))]) X (kf := 0) (i := 0) rfl (by decide) rfl dJ25_bitCount_33 ?_
  refine vv_lload_n (pc := 34) X (kf := 0) (i := 0) rfl 0 rfl dJ25_bitCount_34 ?_
  refine vv_lload_n (pc := 35) X (kf := 0) (i := 0) rfl 0 rfl dJ25_bitCount_35 ?_
  refine vv_bipush (pc := 36) X (by decide) dJ25_bitCount_36 ?_
  refine vv_lushr (pc := 38) X dJ25_bitCount_38 ?_
  refine vv_ladd (pc := 39) X dJ25_bitCount_39 ?_
  refine vv_lstore_n (pc := 40) (lv' := [(0, LJ ((((((a1 - ((lUshr a1 1) &&& (6148914691236517205 : Int64))) &&& (3689348814741910323 : Int64)) + ((lUshr (a1 - ((lUshr a1 1) &&& (6148914691236517205 : Int64))) 2) &&& (3689348814741910323 : Int64))) + (lUshr (((a1 - ((lUshr a1 1) &&& (6148914691236517205 : Int64))) &&& (3689348814741910323 : Int64)) + ((lUshr (a1 - ((lUshr a1 1) &&& (6148914691236517205 : Int64))) 2) &&& (3689348814741910323 : Int64))) 4)) &&& (1085102592571150095 : Int64)) + (lUshr (((((a1 - ((lUshr a1 1) &&& (6148914691236517205 : Int64))) &&& (3689348814741910323 : Int64)) + ((lUshr (a1 - ((lUshr a1 1) &&& (6148914691236517205 : Int64))) 2) &&& (3689348814741910323 : Int64))) + (lUshr (((a1 - ((lUshr a1 1) &&& (6148914691236517205 : Int64))) &&& (3689348814741910323 : Int64)) + ((lUshr (a1 - ((lUshr a1 1) &&& (6148914691236517205 : Int64))) 2) &&& (3689348814741910323 : Int64))) 4)) &&& (1085102592571150095 : Int64)) 8)))]) X (kf := 0) (i := 0) rfl (by decide) rfl dJ25_bitCount_40 ?_
  refine vv_lload_n (pc := 41) X (kf := 0) (i := 0) rfl 0 rfl dJ25_bitCount_41 ?_
  refine vv_lload_n (pc := 42) X (kf := 0) (i := 0) rfl 0 rfl dJ25_bitCount_42 ?_
  refine vv_bipush (pc := 43) X (by decide) dJ25_bitCount_43 ?_
  refine vv_lushr (pc := 45) X dJ25_bitCount_45 ?_
  refine vv_ladd (pc := 46) X dJ25_bitCount_46 ?_
  refine vv_lstore_n (pc := 47) (lv' := [(0, LJ (((((((a1 - ((lUshr a1 1) &&& (6148914691236517205 : Int64))) &&& (3689348814741910323 : Int64)) + ((lUshr (a1 - ((lUshr a1 1) &&& (6148914691236517205 : Int64))) 2) &&& (3689348814741910323 : Int64))) + (lUshr (((a1 - ((lUshr a1 1) &&& (6148914691236517205 : Int64))) &&& (3689348814741910323 : Int64)) + ((lUshr (a1 - ((lUshr a1 1) &&& (6148914691236517205 : Int64))) 2) &&& (3689348814741910323 : Int64))) 4)) &&& (1085102592571150095 : Int64)) + (lUshr (((((a1 - ((lUshr a1 1) &&& (6148914691236517205 : Int64))) &&& (3689348814741910323 : Int64)) + ((lUshr (a1 - ((lUshr a1 1) &&& (6148914691236517205 : Int64))) 2) &&& (3689348814741910323 : Int64))) + (lUshr (((a1 - ((lUshr a1 1) &&& (6148914691236517205 : Int64))) &&& (3689348814741910323 : Int64)) + ((lUshr (a1 - ((lUshr a1 1) &&& (6148914691236517205 : Int64))) 2) &&& (3689348814741910323 : Int64))) 4)) &&& (1085102592571150095 : Int64)) 8)) + (lUshr ((((((a1 - ((lUshr a1 1) &&& (6148914691236517205 : Int64))) &&& (3689348814741910323 : Int64)) + ((lUshr (a1 - ((lUshr a1 1) &&& (6148914691236517205 : Int64))) 2) &&& (3689348814741910323 : Int64))) + (lUshr (((a1 - ((lUshr a1 1) &&& (6148914691236517205 : Int64))) &&& (3689348814741910323 : Int64)) + ((lUshr (a1 - ((lUshr a1 1) &&& (6148914691236517205 : Int64))) 2) &&& (3689348814741910323 : Int64))) 4)) &&& (1085102592571150095 : Int64)) + (lUshr (((((a1 - ((lUshr a1 1) &&& (6148914691236517205 : Int64))) &&& (3689348814741910323 : Int64)) + ((lUshr (a1 - ((lUshr a1 1) &&& (6148914691236517205 : Int64))) 2) &&& (3689348814741910323 : Int64))) + (lUshr (((a1 - ((lUshr a1 1) &&& (6148914691236517205 : Int64))) &&& (3689348814741910323 : Int64)) + ((lUshr (a1 - ((lUshr a1 1) &&& (6148914691236517205 : Int64))) 2) &&& (3689348814741910323 : Int64))) 4)) &&& (1085102592571150095 : Int64)) 8)) 16)))]) X (kf := 0) (i := 0) rfl (by decide) rfl dJ25_bitCount_47 ?_
  refine vv_lload_n (pc := 48) X (kf := 0) (i := 0) rfl 0 rfl dJ25_bitCount_48 ?_
  refine vv_lload_n (pc := 49) X (kf := 0) (i := 0) rfl 0 rfl dJ25_bitCount_49 ?_
  refine vv_bipush (pc := 50) X (by decide) dJ25_bitCount_50 ?_
  refine vv_lushr (pc := 52) X dJ25_bitCount_52 ?_
  refine vv_ladd (pc := 53) X dJ25_bitCount_53 ?_
  refine vv_lstore_n (pc := 54) (lv' := [(0, LJ ((((((((a1 - ((lUshr a1 1) &&& (6148914691236517205 : Int64))) &&& (3689348814741910323 : Int64)) + ((lUshr (a1 - ((lUshr a1 1) &&& (6148914691236517205 : Int64))) 2) &&& (3689348814741910323 : Int64))) + (lUshr (((a1 - ((lUshr a1 1) &&& (6148914691236517205 : Int64))) &&& (3689348814741910323 : Int64)) + ((lUshr (a1 - ((lUshr a1 1) &&& (6148914691236517205 : Int64))) 2) &&& (3689348814741910323 : Int64))) 4)) &&& (1085102592571150095 : Int64)) + (lUshr (((((a1 - ((lUshr a1 1) &&& (6148914691236517205 : Int64))) &&& (3689348814741910323 : Int64)) + ((lUshr (a1 - ((lUshr a1 1) &&& (6148914691236517205 : Int64))) 2) &&& (3689348814741910323 : Int64))) + (lUshr (((a1 - ((lUshr a1 1) &&& (6148914691236517205 : Int64))) &&& (3689348814741910323 : Int64)) + ((lUshr (a1 - ((lUshr a1 1) &&& (6148914691236517205 : Int64))) 2) &&& (3689348814741910323 : Int64))) 4)) &&& (1085102592571150095 : Int64)) 8)) + (lUshr ((((((a1 - ((lUshr a1 1) &&& (6148914691236517205 : Int64))) &&& (3689348814741910323 : Int64)) + ((lUshr (a1 - ((lUshr a1 1) &&& (6148914691236517205 : Int64))) 2) &&& (3689348814741910323 : Int64))) + (lUshr (((a1 - ((lUshr a1 1) &&& (6148914691236517205 : Int64))) &&& (3689348814741910323 : Int64)) + ((lUshr (a1 - ((lUshr a1 1) &&& (6148914691236517205 : Int64))) 2) &&& (3689348814741910323 : Int64))) 4)) &&& (1085102592571150095 : Int64)) + (lUshr (((((a1 - ((lUshr a1 1) &&& (6148914691236517205 : Int64))) &&& (3689348814741910323 : Int64)) + ((lUshr (a1 - ((lUshr a1 1) &&& (6148914691236517205 : Int64))) 2) &&& (3689348814741910323 : Int64))) + (lUshr (((a1 - ((lUshr a1 1) &&& (6148914691236517205 : Int64))) &&& (3689348814741910323 : Int64)) + ((lUshr (a1 - ((lUshr a1 1) &&& (6148914691236517205 : Int64))) 2) &&& (3689348814741910323 : Int64))) 4)) &&& (1085102592571150095 : Int64)) 8)) 16)) + (lUshr (((((((a1 - ((lUshr a1 1) &&& (6148914691236517205 : Int64))) &&& (3689348814741910323 : Int64)) + ((lUshr (a1 - ((lUshr a1 1) &&& (6148914691236517205 : Int64))) 2) &&& (3689348814741910323 : Int64))) + (lUshr (((a1 - ((lUshr a1 1) &&& (6148914691236517205 : Int64))) &&& (3689348814741910323 : Int64)) + ((lUshr (a1 - ((lUshr a1 1) &&& (6148914691236517205 : Int64))) 2) &&& (3689348814741910323 : Int64))) 4)) &&& (1085102592571150095 : Int64)) + (lUshr (((((a1 - ((lUshr a1 1) &&& (6148914691236517205 : Int64))) &&& (3689348814741910323 : Int64)) + ((lUshr (a1 - ((lUshr a1 1) &&& (6148914691236517205 : Int64))) 2) &&& (3689348814741910323 : Int64))) + (lUshr (((a1 - ((lUshr a1 1) &&& (6148914691236517205 : Int64))) &&& (3689348814741910323 : Int64)) + ((lUshr (a1 - ((lUshr a1 1) &&& (6148914691236517205 : Int64))) 2) &&& (3689348814741910323 : Int64))) 4)) &&& (1085102592571150095 : Int64)) 8)) + (lUshr ((((((a1 - ((lUshr a1 1) &&& (6148914691236517205 : Int64))) &&& (3689348814741910323 : Int64)) + ((lUshr (a1 - ((lUshr a1 1) &&& (6148914691236517205 : Int64))) 2) &&& (3689348814741910323 : Int64))) + (lUshr (((a1 - ((lUshr a1 1) &&& (6148914691236517205 : Int64))) &&& (3689348814741910323 : Int64)) + ((lUshr (a1 - ((lUshr a1 1) &&& (6148914691236517205 : Int64))) 2) &&& (3689348814741910323 : Int64))) 4)) &&& (1085102592571150095 : Int64)) + (lUshr (((((a1 - ((lUshr a1 1) &&& (6148914691236517205 : Int64))) &&& (3689348814741910323 : Int64)) + ((lUshr (a1 - ((lUshr a1 1) &&& (6148914691236517205 : Int64))) 2) &&& (3689348814741910323 : Int64))) + (lUshr (((a1 - ((lUshr a1 1) &&& (6148914691236517205 : Int64))) &&& (3689348814741910323 : Int64)) + ((lUshr (a1 - ((lUshr a1 1) &&& (6148914691236517205 : Int64))) 2) &&& (3689348814741910323 : Int64))) 4)) &&& (1085102592571150095 : Int64)) 8)) 16)) 32)))]) X (kf := 0) (i := 0) rfl (by decide) rfl dJ25_bitCount_54 ?_
  refine vv_lload_n (pc := 55) X (kf := 0) (i := 0) rfl 0 rfl dJ25_bitCount_55 ?_
  refine vv_l2i (pc := 56) X dJ25_bitCount_56 ?_
  refine vv_bipush (pc := 57) X (by decide) dJ25_bitCount_57 ?_
  refine vv_iand (pc := 59) X dJ25_bitCount_59 ?_
  exact vv_iretI X rfl rfl dJ25_bitCount_60
theorem m_J25_bitCount {l : Launch} (hl : l.stackTraces = false) {G : va_G} (a1 : Int64) (h : HP) : ∀ r hf, f_J25_bitCount a1 h = some (r, hf) → Ct l yJ25_bitCount (ws_ yJ25_bitCount cJ25_bitCount 2 (some .int)) 0 0 G h [.long a1] (jI r) hf :=
  zz_ofW hl (by decide +kernel) (lv := [(0, LJ a1)]) (by simp [lv_args, lvL, lvV, zz_rfc, zz_rfs, zz_ci, zz_cr, zz_cj, zz_cf, zz_cd]) (by simp [lg_sl, zz_rfc, zz_ci, zz_cr, zz_cj, zz_cf, zz_cd]) (fun _ X => A_J25_bitCount X a1 h)
-- J40_cardinality java/util/BitSet.cardinality()I
noncomputable def c_J40_cardinality_4 (r4 : Option Nat → Int → Int → HP → Option ((Int) × HP)) (x0 : Option Nat) (x1 : Int) (x2 : Int) (h : HP) : Option ((Int) × HP) :=
  (rdI h x0 [33] 1).bind fun v1 =>
  iLE v1 x2
    (some (x1, h))
    ((rdR h x0 [33] 0).bind fun v2 =>
    (aldJ h v2 x2).bind fun v3 =>
    hb (f_J25_bitCount v3 h) fun v4 h5 =>
    r4 x0 (x1 + v4) (x2 + 1) h5)
noncomputable def b_J40_cardinality_4 : Option Nat → Int → Int → HP → Option ((Int) × HP) := fx (fun _ _ _ _ => none) (c_J40_cardinality_4) FU
theorem C_J40_cardinality_4 {M : hp_M} {G : va_G} {h0 : HP} (X : hp_X M G h0 "java/util/BitSet" "cardinality" cJ40_cardinality 3 (some .int) [] 1 29) (r4 : Option Nat → Int → Int → HP → Option ((Int) × HP)) (hr4 : ∀ (y0 : Option Nat) (y1 : Int) (y2 : Int) (h : HP), vv M G h0 3 (hp_End M G h0) jI h 4 [(0, LR y0), (1, LI y1), (2, LI y2)] [] (r4 y0 y1 y2 h)) (x0 : Option Nat) (x1 : Int) (x2 : Int) (h : HP) : vv M G h0 3 (hp_End M G h0) jI h 4 [(0, LR x0), (1, LI x1), (2, LI x2)] [] (c_J40_cardinality_4 r4 x0 x1 x2 h) := by
  unfold c_J40_cardinality_4
  refine vv_iload_n (pc := 4) X (kf := 2) (i := 2) rfl 2 rfl dJ40_cardinality_4 ?_
  refine vv_aload_n (pc := 5) X (kf := 0) (i := 0) rfl 0 rfl dJ40_cardinality_5 ?_
  refine vv_getI (pc := 6) X (fun _ z => by cases List.mem_singleton.mp z; exact fl_J40_7_33) dJ40_cardinality_6 (fun v1 => ?_)
  refine vv_icmp_ge (pc := 9) (tgt := 30) X dJ40_cardinality_9 rfl ?_ ?_
  · refine vv_iload_n (pc := 30) X (kf := 1) (i := 1) rfl 1 rfl dJ40_cardinality_30 ?_
    exact vv_iretI X rfl rfl dJ40_cardinality_31
  · refine vv_iload_n (pc := 12) X (kf := 1) (i := 1) rfl 1 rfl dJ40_cardinality_12 ?_
    refine vv_aload_n (pc := 13) X (kf := 0) (i := 0) rfl 0 rfl dJ40_cardinality_13 ?_
    refine vv_getR (pc := 14) X (fun _ z => by cases List.mem_singleton.mp z; exact fl_J40_11_33) dJ40_cardinality_14 (fun v2 => ?_)
    refine vv_iload_n (pc := 17) X (kf := 2) (i := 2) rfl 2 rfl dJ40_cardinality_17 ?_
    refine vv_laload (pc := 18) X dJ40_cardinality_18 (fun v3 => ?_)
    refine vv_callI (pc := 19) (rest := [LI x1]) (by rfl) (fun r8 k8 e8 => zz_callS X (m_J25_bitCount (hlM X) _ _ _ _ e8) q2928 q2929 q173 q2930 nh_J25 rfl (by decide) (by decide) (Nat.le_of_ble_eq_true rfl) dJ40_cardinality_19) (fun v4 h5 => ?_)
    refine vv_iadd (pc := 22) X dJ40_cardinality_22 ?_
    refine vv_istore_n (pc := 23) (lv' := [(1, LI (x1 + v4)), (0, LR x0), (2, LI x2)]) X (kf := 1) (i := 1) rfl (by decide) rfl dJ40_cardinality_23 ?_
    refine vv_iinc (pc := 24) (lv' := [(2, LI (x2 + 1)), (1, LI (x1 + v4)), (0, LR x0)]) X 2 rfl (by decide) rfl dJ40_cardinality_24 ?_
    refine vv_goto (pc := 27) (tgt := 4) X dJ40_cardinality_27 rfl ?_
    exact vv_sub [2, 1, 0] (by rfl) (hr4 _ _ _ _)
theorem B_J40_cardinality_4 {M : hp_M} {G : va_G} {h0 : HP} (X : hp_X M G h0 "java/util/BitSet" "cardinality" cJ40_cardinality 3 (some .int) [] 1 29) : ∀ (x0 : Option Nat) (x1 : Int) (x2 : Int) (h : HP), vv M G h0 3 (hp_End M G h0) jI h 4 [(0, LR x0), (1, LI x1), (2, LI x2)] [] (b_J40_cardinality_4 x0 x1 x2 h) := by
  unfold b_J40_cardinality_4
  generalize FU = n
  induction n with
  | zero => intro x0 x1 x2 h; exact vv_none
  | succ n ih => exact C_J40_cardinality_4 X _ ih
noncomputable def f_J40_cardinality (a0 : Nat) (h : HP) : Option ((Int) × HP) :=
  b_J40_cardinality_4 (some a0) 0 0 h
theorem A_J40_cardinality {M : hp_M} {G : va_G} {h0 : HP} (X : hp_X M G h0 "java/util/BitSet" "cardinality" cJ40_cardinality 3 (some .int) [] 1 29) (a0 : Nat) (h : HP) : vv M G h0 3 (hp_End M G h0) jI h 0 [(0, LR (some a0))] [] (f_J40_cardinality a0 h) := by
  unfold f_J40_cardinality
  refine vv_iconst (pc := 0) X dJ40_cardinality_0 ?_
  refine vv_istore_n (pc := 1) (lv' := [(1, LI 0), (0, LR (some a0))]) X (kf := 1) (i := 1) rfl (by decide) rfl dJ40_cardinality_1 ?_
  refine vv_iconst (pc := 2) X dJ40_cardinality_2 ?_
  refine vv_istore_n (pc := 3) (lv' := [(2, LI 0), (1, LI 0), (0, LR (some a0))]) X (kf := 2) (i := 2) rfl (by decide) rfl dJ40_cardinality_3 ?_
  exact vv_sub [2, 1, 0] (by rfl) (B_J40_cardinality_4 X _ _ _ _)
theorem m_J40_cardinality {l : Launch} (hl : l.stackTraces = false) {G : va_G} (a0 : Nat) (h : HP) : ∀ r hf, f_J40_cardinality a0 h = some (r, hf) → Ct l yJ40_cardinality (ws_ yJ40_cardinality cJ40_cardinality 3 (some .int)) 1 29 G h [.ref a0] (jI r) hf :=
  zz_ofW hl (by decide +kernel) (lv := [(0, LR (some a0))]) (by simp [lv_args, lvL, lvV, zz_rfc, zz_rfs, zz_ci, zz_cr, zz_cj, zz_cf, zz_cd]) (by simp [lg_sl, zz_rfc, zz_ci, zz_cr, zz_cj, zz_cf, zz_cd]) (fun _ X => A_J40_cardinality X a0 h)
-- X1_pattern RenamedWords.pattern(II)I
noncomputable def b_X1_pattern_171 (s0 : Int) (h : HP) : Option ((Nat ⊕ Int) × HP) :=
  some (.inr s0, h)
theorem B_X1_pattern_171 {M : hp_M} {G : va_G} {h0 : HP} (X : hp_X M G h0 "RenamedWords" "pattern" cX1_pattern 4 (some .int) [] 9 275) (s0 : Int) (h : HP) : vv M G h0 4 (hp_End M G h0) xI h 171 [] [LI s0] (b_X1_pattern_171 s0 h) := by
  unfold b_X1_pattern_171
  exact vv_iretI X rfl rfl dX1_pattern_171
noncomputable def f_X1_pattern (a0 : Nat) (a1 : Int) (a2 : Int) (h : HP) : Option ((Nat ⊕ Int) × HP) :=
  (rcv h (some a0) [0]).bind fun b3 =>
  hbx (f_X1_patternAt b3 a1 h) (fun q5 h6 =>
      some (.inl q5, h6)) fun v1 h2 =>
  iIN a2
    (if a2 = 0 then
      (rcv h2 v1 [11]).bind fun b9 =>
      hb (f_X14_many b9 h2) fun v7 h8 =>
      b_X1_pattern_171 v7 h8
    else
    if a2 = 1 then
      (rdR h2 (some a0) [0] 0).bind fun v11 =>
      (rdI h2 v11 [1] 7).bind fun v12 =>
      (rcv h2 v1 [11]).bind fun b15 =>
      hb (f_X14_unlike b15 0 v12 h2) fun v13 h14 =>
      b_X1_pattern_171 v13 h14
    else
    if a2 = 2 then
      (rdR h2 (some a0) [0] 0).bind fun v17 =>
      (rdI h2 v17 [1] 7).bind fun v18 =>
      (rcv h2 v1 [11]).bind fun b21 =>
      hb (f_X14_unlike b21 1 v18 h2) fun v19 h20 =>
      b_X1_pattern_171 v19 h20
    else
    if a2 = 3 then
      (rdR h2 (some a0) [0] 0).bind fun v23 =>
      (rcv h2 v1 [11]).bind fun b26 =>
      hb (f_X14_many b26 h2) fun v24 h25 =>
      (rcv h25 v23 [1]).bind fun b30 =>
      hb (f_X2_border b30 a1 v24 h25) fun v28 h29 =>
      b_X1_pattern_171 v28 h29
    else
    if a2 = 4 then
      (rcv h2 v1 [11]).bind fun b34 =>
      hb (f_X14_many b34 h2) fun v32 h33 =>
      (rdR h33 (some a0) [0] 0).bind fun v36 =>
      (rcv h33 v1 [11]).bind fun b39 =>
      hb (f_X14_many b39 h33) fun v37 h38 =>
      (rcv h38 v36 [1]).bind fun b43 =>
      hb (f_X2_border b43 a1 v37 h38) fun v41 h42 =>
      b_X1_pattern_171 (v32 - v41) h42
    else
    if a2 = 5 then
      (rdR h2 (some a0) [0] 0).bind fun v45 =>
      (rdR h2 v45 [1] 3).bind fun v46 =>
      (rcv h2 v46 [4]).bind fun b49 =>
      hb (f_X6_manyOf b49 a1 h2) fun v47 h48 =>
      b_X1_pattern_171 v47 h48
    else
    if a2 = 6 then
      (rdR h2 (some a0) [0] 0).bind fun v51 =>
      (rcv h2 v51 [1]).bind fun b54 =>
      hb (f_X2_hits b54 a1 h2) fun v52 h53 =>
      b_X1_pattern_171 v52 h53
    else
    if a2 = 7 then
      (rdR h2 (some a0) [0] 0).bind fun v56 =>
      (rcv h2 v56 [1]).bind fun b59 =>
      hb (f_X2_candidates b59 a1 h2) fun v57 h58 =>
      (rcv h58 v57 [33]).bind fun b63 =>
      hb (f_J40_cardinality b63 h58) fun v61 h62 =>
      b_X1_pattern_171 v61 h62
    else
    hb (nwX h2 0 36) fun v65 h66 =>
    (v65).bind fun q67 =>
    some (.inl q67, h66))
theorem A_X1_pattern {M : hp_M} {G : va_G} {h0 : HP} (X : hp_X M G h0 "RenamedWords" "pattern" cX1_pattern 4 (some .int) [] 9 275) (a0 : Nat) (a1 : Int) (a2 : Int) (h : HP) : vv M G h0 4 (hp_End M G h0) xI h 0 [(0, LR (some a0)), (1, LI a1), (2, LI a2)] [] (f_X1_pattern a0 a1 a2 h) := by
  unfold f_X1_pattern
  refine vv_aload_n (pc := 0) X (kf := 0) (i := 0) rfl 0 rfl dX1_pattern_0 ?_
  refine vv_iload_n (pc := 1) X (kf := 1) (i := 1) rfl 1 rfl dX1_pattern_1 ?_
  refine vv_rcv (fun b3 t9 c9 fs9 e4 g9 k9 => ?_)
  cases List.mem_singleton.mp k9
  refine vv_xallR (pc := 2) (rest := []) (by rw [e4]; rfl) (fun r8 k8 e8 => zz_callV X (m_X1_patternAt (hlM X) _ _ _ _ _ e8) g9 rfl rfl q3102 q3104 qs47 q132 q3105 nh_X1 rfl (by decide) (by decide) (Nat.le_of_ble_eq_true rfl) dX1_pattern_2) (fun v1 h2 => ?_) (fun q5 h6 => ?_)
  · refine vv_astore_n (pc := 5) (lv' := [(3, LR v1), (0, LR (some a0)), (1, LI a1), (2, LI a2)]) X (kf := 3) (i := 3) rfl (by decide) rfl dX1_pattern_5 ?_
    refine vv_iload_n (pc := 6) X (kf := 2) (i := 2) rfl 3 rfl dX1_pattern_6 ?_
    refine vv_iIN (fun hr => ?_)
    refine vv_if (fun e0 => ?_) (fun e0 => ?_)
    · refine vv_tsw (pc := 7) (off := 45) (tgt := 52) X dX1_pattern_7 hr (by omega) (by omega) (by rw [e0]; rfl) rfl ?_
      refine vv_aload_n (pc := 52) X (kf := 3) (i := 3) rfl 0 rfl dX1_pattern_52 ?_
      refine vv_rcv (fun b9 t9 c9 fs9 e10 g9 k9 => ?_)
      cases List.mem_singleton.mp k9
      refine vv_callI (pc := 53) (rest := []) (by rw [e10]; rfl) (fun r8 k8 e8 => zz_callV X (m_X14_many (hlM X) _ _ _ _ e8) g9 rfl rfl q2881 q2601 q2602 q174 q2603 nh_X14 rfl (by decide) (by decide) (Nat.le_of_ble_eq_true rfl) dX1_pattern_53) (fun v7 h8 => ?_)
      refine vv_goto (pc := 56) (tgt := 171) X dX1_pattern_56 rfl ?_
      exact vv_sub [] (by rfl) (B_X1_pattern_171 X _ _)
    refine vv_if (fun e1 => ?_) (fun e1 => ?_)
    · refine vv_tsw (pc := 7) (off := 52) (tgt := 59) X dX1_pattern_7 hr (by omega) (by omega) (by rw [e1]; rfl) rfl ?_
      refine vv_aload_n (pc := 59) X (kf := 3) (i := 3) rfl 0 rfl dX1_pattern_59 ?_
      refine vv_iconst (pc := 60) X dX1_pattern_60 ?_
      refine vv_aload_n (pc := 61) X (kf := 0) (i := 0) rfl 1 rfl dX1_pattern_61 ?_
      refine vv_getR (pc := 62) X (fun _ z => by cases List.mem_singleton.mp z; exact fl_X1_35_0) dX1_pattern_62 (fun v11 => ?_)
      refine vv_getI (pc := 65) X (fun _ z => by cases List.mem_singleton.mp z; exact fl_X1_189_1) dX1_pattern_65 (fun v12 => ?_)
      refine vv_rcv (fun b15 t9 c9 fs9 e16 g9 k9 => ?_)
      cases List.mem_singleton.mp k9
      refine vv_callI (pc := 68) (rest := []) (by rw [e16]; rfl) (fun r8 k8 e8 => zz_callV X (m_X14_unlike (hlM X) _ _ _ _ _ _ e8) g9 rfl rfl q3106 q3107 q3108 q174 q3109 nh_X14 rfl (by decide) (by decide) (Nat.le_of_ble_eq_true rfl) dX1_pattern_68) (fun v13 h14 => ?_)
      refine vv_goto (pc := 71) (tgt := 171) X dX1_pattern_71 rfl ?_
      exact vv_sub [] (by rfl) (B_X1_pattern_171 X _ _)
    refine vv_if (fun e2 => ?_) (fun e2 => ?_)
    · refine vv_tsw (pc := 7) (off := 67) (tgt := 74) X dX1_pattern_7 hr (by omega) (by omega) (by rw [e2]; rfl) rfl ?_
      refine vv_aload_n (pc := 74) X (kf := 3) (i := 3) rfl 0 rfl dX1_pattern_74 ?_
      refine vv_iconst (pc := 75) X dX1_pattern_75 ?_
      refine vv_aload_n (pc := 76) X (kf := 0) (i := 0) rfl 1 rfl dX1_pattern_76 ?_
      refine vv_getR (pc := 77) X (fun _ z => by cases List.mem_singleton.mp z; exact fl_X1_35_0) dX1_pattern_77 (fun v17 => ?_)
      refine vv_getI (pc := 80) X (fun _ z => by cases List.mem_singleton.mp z; exact fl_X1_189_1) dX1_pattern_80 (fun v18 => ?_)
      refine vv_rcv (fun b21 t9 c9 fs9 e22 g9 k9 => ?_)
      cases List.mem_singleton.mp k9
      refine vv_callI (pc := 83) (rest := []) (by rw [e22]; rfl) (fun r8 k8 e8 => zz_callV X (m_X14_unlike (hlM X) _ _ _ _ _ _ e8) g9 rfl rfl q3106 q3107 q3108 q174 q3109 nh_X14 rfl (by decide) (by decide) (Nat.le_of_ble_eq_true rfl) dX1_pattern_83) (fun v19 h20 => ?_)
      refine vv_goto (pc := 86) (tgt := 171) X dX1_pattern_86 rfl ?_
      exact vv_sub [] (by rfl) (B_X1_pattern_171 X _ _)
    refine vv_if (fun e3 => ?_) (fun e3 => ?_)
    · refine vv_tsw (pc := 7) (off := 82) (tgt := 89) X dX1_pattern_7 hr (by omega) (by omega) (by rw [e3]; rfl) rfl ?_
      refine vv_aload_n (pc := 89) X (kf := 0) (i := 0) rfl 1 rfl dX1_pattern_89 ?_
      refine vv_getR (pc := 90) X (fun _ z => by cases List.mem_singleton.mp z; exact fl_X1_35_0) dX1_pattern_90 (fun v23 => ?_)
      refine vv_iload_n (pc := 93) X (kf := 1) (i := 1) rfl 2 rfl dX1_pattern_93 ?_
      refine vv_aload_n (pc := 94) X (kf := 3) (i := 3) rfl 0 rfl dX1_pattern_94 ?_
      refine vv_rcv (fun b26 t9 c9 fs9 e27 g9 k9 => ?_)
      cases List.mem_singleton.mp k9
      refine vv_callI (pc := 95) (rest := [LI a1, LR v23]) (by rw [e27]; rfl) (fun r8 k8 e8 => zz_callV X (m_X14_many (hlM X) _ _ _ _ e8) g9 rfl rfl q2881 q2601 q2602 q174 q2603 nh_X14 rfl (by decide) (by decide) (Nat.le_of_ble_eq_true rfl) dX1_pattern_95) (fun v24 h25 => ?_)
      refine vv_rcv (fun b30 t9 c9 fs9 e31 g9 k9 => ?_)
      cases List.mem_singleton.mp k9
      refine vv_callI (pc := 98) (rest := []) (by rw [e31]; rfl) (fun r8 k8 e8 => zz_callV X (m_X2_border (hlM X) _ _ _ _ _ _ e8) g9 rfl rfl q3115 q3116 q3117 q133 q3118 nh_X2 rfl (by decide) (by decide) (Nat.le_of_ble_eq_true rfl) dX1_pattern_98) (fun v28 h29 => ?_)
      refine vv_goto (pc := 101) (tgt := 171) X dX1_pattern_101 rfl ?_
      exact vv_sub [] (by rfl) (B_X1_pattern_171 X _ _)
    refine vv_if (fun e4 => ?_) (fun e4 => ?_)
    · refine vv_tsw (pc := 7) (off := 97) (tgt := 104) X dX1_pattern_7 hr (by omega) (by omega) (by rw [e4]; rfl) rfl ?_
      refine vv_aload_n (pc := 104) X (kf := 3) (i := 3) rfl 0 rfl dX1_pattern_104 ?_
      refine vv_rcv (fun b34 t9 c9 fs9 e35 g9 k9 => ?_)
      cases List.mem_singleton.mp k9
      refine vv_callI (pc := 105) (rest := []) (by rw [e35]; rfl) (fun r8 k8 e8 => zz_callV X (m_X14_many (hlM X) _ _ _ _ e8) g9 rfl rfl q2881 q2601 q2602 q174 q2603 nh_X14 rfl (by decide) (by decide) (Nat.le_of_ble_eq_true rfl) dX1_pattern_105) (fun v32 h33 => ?_)
      refine vv_aload_n (pc := 108) X (kf := 0) (i := 0) rfl 1 rfl dX1_pattern_108 ?_
      refine vv_getR (pc := 109) X (fun _ z => by cases List.mem_singleton.mp z; exact fl_X1_35_0) dX1_pattern_109 (fun v36 => ?_)
      refine vv_iload_n (pc := 112) X (kf := 1) (i := 1) rfl 2 rfl dX1_pattern_112 ?_
      refine vv_aload_n (pc := 113) X (kf := 3) (i := 3) rfl 0 rfl dX1_pattern_113 ?_
      refine vv_rcv (fun b39 t9 c9 fs9 e40 g9 k9 => ?_)
      cases List.mem_singleton.mp k9
      refine vv_callI (pc := 114) (rest := [LI a1, LR v36, LI v32]) (by rw [e40]; rfl) (fun r8 k8 e8 => zz_callV X (m_X14_many (hlM X) _ _ _ _ e8) g9 rfl rfl q2881 q2601 q2602 q174 q2603 nh_X14 rfl (by decide) (by decide) (Nat.le_of_ble_eq_true rfl) dX1_pattern_114) (fun v37 h38 => ?_)
      refine vv_rcv (fun b43 t9 c9 fs9 e44 g9 k9 => ?_)
      cases List.mem_singleton.mp k9
      refine vv_callI (pc := 117) (rest := [LI v32]) (by rw [e44]; rfl) (fun r8 k8 e8 => zz_callV X (m_X2_border (hlM X) _ _ _ _ _ _ e8) g9 rfl rfl q3115 q3116 q3117 q133 q3118 nh_X2 rfl (by decide) (by decide) (Nat.le_of_ble_eq_true rfl) dX1_pattern_117) (fun v41 h42 => ?_)
      refine vv_isub (pc := 120) X dX1_pattern_120 ?_
      refine vv_goto (pc := 121) (tgt := 171) X dX1_pattern_121 rfl ?_
      exact vv_sub [] (by rfl) (B_X1_pattern_171 X _ _)
    refine vv_if (fun e5 => ?_) (fun e5 => ?_)
    · refine vv_tsw (pc := 7) (off := 117) (tgt := 124) X dX1_pattern_7 hr (by omega) (by omega) (by rw [e5]; rfl) rfl ?_
      refine vv_aload_n (pc := 124) X (kf := 0) (i := 0) rfl 1 rfl dX1_pattern_124 ?_
      refine vv_getR (pc := 125) X (fun _ z => by cases List.mem_singleton.mp z; exact fl_X1_35_0) dX1_pattern_125 (fun v45 => ?_)
      refine vv_getR (pc := 128) X (fun _ z => by cases List.mem_singleton.mp z; exact fl_X1_196_1) dX1_pattern_128 (fun v46 => ?_)
      refine vv_iload_n (pc := 131) X (kf := 1) (i := 1) rfl 2 rfl dX1_pattern_131 ?_
      refine vv_rcv (fun b49 t9 c9 fs9 e50 g9 k9 => ?_)
      cases List.mem_singleton.mp k9
      refine vv_callI (pc := 132) (rest := []) (by rw [e50]; rfl) (fun r8 k8 e8 => zz_callV X (m_X6_manyOf (hlM X) _ _ _ _ _ e8) g9 rfl rfl q3119 q3120 q3121 q158 q3122 nh_X6 rfl (by decide) (by decide) (Nat.le_of_ble_eq_true rfl) dX1_pattern_132) (fun v47 h48 => ?_)
      refine vv_goto (pc := 135) (tgt := 171) X dX1_pattern_135 rfl ?_
      exact vv_sub [] (by rfl) (B_X1_pattern_171 X _ _)
    refine vv_if (fun e6 => ?_) (fun e6 => ?_)
    · refine vv_tsw (pc := 7) (off := 131) (tgt := 138) X dX1_pattern_7 hr (by omega) (by omega) (by rw [e6]; rfl) rfl ?_
      refine vv_aload_n (pc := 138) X (kf := 0) (i := 0) rfl 1 rfl dX1_pattern_138 ?_
      refine vv_getR (pc := 139) X (fun _ z => by cases List.mem_singleton.mp z; exact fl_X1_35_0) dX1_pattern_139 (fun v51 => ?_)
      refine vv_iload_n (pc := 142) X (kf := 1) (i := 1) rfl 2 rfl dX1_pattern_142 ?_
      refine vv_rcv (fun b54 t9 c9 fs9 e55 g9 k9 => ?_)
      cases List.mem_singleton.mp k9
      refine vv_callI (pc := 143) (rest := []) (by rw [e55]; rfl) (fun r8 k8 e8 => zz_callV X (m_X2_hits (hlM X) _ _ _ _ _ e8) g9 rfl rfl q3124 q2809 q2810 q133 q2811 nh_X2 rfl (by decide) (by decide) (Nat.le_of_ble_eq_true rfl) dX1_pattern_143) (fun v52 h53 => ?_)
      refine vv_goto (pc := 146) (tgt := 171) X dX1_pattern_146 rfl ?_
      exact vv_sub [] (by rfl) (B_X1_pattern_171 X _ _)
    refine vv_if (fun e7 => ?_) (fun e7 => ?_)
    · refine vv_tsw (pc := 7) (off := 142) (tgt := 149) X dX1_pattern_7 hr (by omega) (by omega) (by rw [e7]; rfl) rfl ?_
      refine vv_aload_n (pc := 149) X (kf := 0) (i := 0) rfl 1 rfl dX1_pattern_149 ?_
      refine vv_getR (pc := 150) X (fun _ z => by cases List.mem_singleton.mp z; exact fl_X1_35_0) dX1_pattern_150 (fun v56 => ?_)
      refine vv_iload_n (pc := 153) X (kf := 1) (i := 1) rfl 2 rfl dX1_pattern_153 ?_
      refine vv_rcv (fun b59 t9 c9 fs9 e60 g9 k9 => ?_)
      cases List.mem_singleton.mp k9
      refine vv_callR (pc := 154) (rest := []) (by rw [e60]; rfl) (fun r8 k8 e8 => zz_callV X (m_X2_candidates (hlM X) _ _ _ _ _ e8) g9 rfl rfl q3125 q3126 q3127 q133 q3128 nh_X2 rfl (by decide) (by decide) (Nat.le_of_ble_eq_true rfl) dX1_pattern_154) (fun v57 h58 => ?_)
      refine vv_rcv (fun b63 t9 c9 fs9 e64 g9 k9 => ?_)
      cases List.mem_singleton.mp k9
      refine vv_callI (pc := 157) (rest := []) (by rw [e64]; rfl) (fun r8 k8 e8 => zz_callV X (m_J40_cardinality (hlM X) _ _ _ _ e8) g9 rfl rfl q2924 q2925 q2926 q204 q2927 nh_J40 rfl (by decide) (by decide) (Nat.le_of_ble_eq_true rfl) dX1_pattern_157) (fun v61 h62 => ?_)
      refine vv_goto (pc := 160) (tgt := 171) X dX1_pattern_160 rfl ?_
      exact vv_sub [] (by rfl) (B_X1_pattern_171 X _ _)
    refine vv_tswD (pc := 7) (tgt := 163) X dX1_pattern_7 hr (by omega) rfl ?_
    refine vv_newX (pc := 163) (cls := "java/lang/IllegalArgumentException") (names := ["java/lang/RuntimeException", "java/lang/Exception"]) X (by decide +kernel) (by decide +kernel) q3033 q143 nx_X1_pattern_163 (by decide +kernel) dX1_pattern_163 dX1_pattern_166 dX1_pattern_167 rfl (by decide) (by decide) (Nat.le_of_ble_eq_true rfl) (fun v65 h66 => ?_)
    refine vv_athrow (pc := 170) X dX1_pattern_170 (fun q67 _ => ?_)
    exact vvx_out X (by decide) rfl
  · exact vvx_out X (by decide) rfl
theorem m_X1_pattern {l : Launch} (hl : l.stackTraces = false) {G : va_G} (a0 : Nat) (a1 : Int) (a2 : Int) (h : HP) : ∀ r hf, f_X1_pattern a0 a1 a2 h = some (r, hf) → Ct l yX1_pattern (ws_ yX1_pattern cX1_pattern 4 (some .int)) 9 275 G h [.ref a0, .int (iI a1), .int (iI a2)] (xI r) hf :=
  zz_ofW hl (by decide +kernel) (lv := [(0, LR (some a0)), (1, LI a1), (2, LI a2)]) (by simp [lv_args, lvL, lvV, zz_rfc, zz_rfs, zz_ci, zz_cr, zz_cj, zz_cf, zz_cd]) (by simp [lg_sl, zz_rfc, zz_ci, zz_cr, zz_cj, zz_cf, zz_cd]) (fun _ X => A_X1_pattern X a0 a1 a2 h)
