/-! STAGE 1c: functions and contracts (printed by gen/mkfuncs.py). -/
set_option maxRecDepth 100000
set_option linter.unusedVariables false
-- X11_pattern RenamedWords$SetupReader.pattern()V
noncomputable def b_X11_pattern_78 (x0 : Option Nat) (x1 : Option Nat) (x2 : Option Nat) (s0 : Int) (s1 : Option Nat) (h : HP) : Option ((Nat ⊕ Unit) × HP) :=
  (rcv h s1 [8]).bind fun b47 =>
  hbx (f_X10_must b47 s0 2 h) (fun q49 h50 =>
      some (.inl q49, h50)) fun _ h46 =>
  (rcv h46 x0 [8]).bind fun b53 =>
  hb (f_X10_next b53 h46) fun _ h52 =>
  (rdR h52 x0 [8] 7).bind fun v55 =>
  (rdR h52 v55 [1] 2).bind fun v56 =>
  (rdR h52 x0 [8] 7).bind fun v57 =>
  (rcv h52 v57 [1]).bind fun b60 =>
  hb (f_X2_patternMany b60 h52) fun v58 h59 =>
  hb (nwO h59 0 11 [.inr (.inl none)] 1) fun v62 h63 =>
  (v62).bind fun b66 =>
  hb (f_X14_init b66 x2 h63) fun _ h65 =>
  (astR h65 "RenamedWords$Word" [11] v56 v58 v62).bind fun h68 =>
  (rdR h68 x0 [8] 7).bind fun v69 =>
  (rdR h68 v69 [1] 1).bind fun v70 =>
  (rcv h68 v70 [2]).bind fun b73 =>
  hb (f_X3_comes b73 x1 h68) fun _ h72 =>
  some (.inr (), h72)
theorem B_X11_pattern_78 {M : hp_M} {G : va_G} {h0 : HP} (X : hp_X M G h0 "RenamedWords$SetupReader" "pattern" cX11_pattern 3 none [] 9 281) (x0 : Option Nat) (x1 : Option Nat) (x2 : Option Nat) (s0 : Int) (s1 : Option Nat) (h : HP) : vv M G h0 3 (hp_End M G h0) xV h 78 [(0, LR x0), (1, LR x1), (2, LR x2)] [LI s0, LR s1] (b_X11_pattern_78 x0 x1 x2 s0 s1 h) := by
  unfold b_X11_pattern_78
  refine vv_iconst (pc := 78) X dX11_pattern_78 ?_
  refine vv_rcv (fun b47 t9 c9 fs9 e48 g9 k9 => ?_)
  cases List.mem_singleton.mp k9
  refine vv_xallV (pc := 79) (rest := []) (by rw [e48]; rfl) (fun r8 k8 e8 => zz_callU X (m_X10_must (hlM X) _ _ _ _ _ _ e8) g9 rfl q964 q965 (va_Decl.of (X.1.2.2.2.2 _ q968) (X.1.2.2.2.2 _ q969)) (by decide) q968 q967 q165 q969 rfl (by decide) (by decide) (Nat.le_of_ble_eq_true rfl) dX11_pattern_79) (fun v45 h46 => ?_) (fun q49 h50 => ?_)
  · refine vv_aload_n (pc := 82) X (kf := 0) (i := 0) rfl 0 rfl dX11_pattern_82 ?_
    refine vv_rcv (fun b53 t9 c9 fs9 e54 g9 k9 => ?_)
    cases List.mem_singleton.mp k9
    refine vv_callV (pc := 83) (rest := []) (by rw [e54]; rfl) (fun r8 k8 e8 => zz_callU X (m_X10_next (hlM X) _ _ _ _ e8) g9 rfl q998 q999 (va_Decl.of (X.1.2.2.2.2 _ q860) (X.1.2.2.2.2 _ q864)) (by decide) q860 q1001 q165 q864 rfl (by decide) (by decide) (Nat.le_of_ble_eq_true rfl) dX11_pattern_83) (fun v51 h52 => ?_)
    refine vv_aload_n (pc := 86) X (kf := 0) (i := 0) rfl 0 rfl dX11_pattern_86 ?_
    refine vv_getR (pc := 87) X (fun _ z => by cases List.mem_singleton.mp z; exact fl_X11_25_8) dX11_pattern_87 (fun v55 => ?_)
    refine vv_getR (pc := 90) X (fun _ z => by cases List.mem_singleton.mp z; exact fl_X11_113_1) dX11_pattern_90 (fun v56 => ?_)
    refine vv_aload_n (pc := 93) X (kf := 0) (i := 0) rfl 0 rfl dX11_pattern_93 ?_
    refine vv_getR (pc := 94) X (fun _ z => by cases List.mem_singleton.mp z; exact fl_X11_25_8) dX11_pattern_94 (fun v57 => ?_)
    refine vv_rcv (fun b60 t9 c9 fs9 e61 g9 k9 => ?_)
    cases List.mem_singleton.mp k9
    refine vv_callI (pc := 97) (rest := [LR v56]) (by rw [e61]; rfl) (fun r8 k8 e8 => zz_callV X (m_X2_patternMany (hlM X) _ _ _ _ e8) g9 rfl rfl q1113 q1114 q1115 q133 q1116 nh_X2 rfl (by decide) (by decide) (Nat.le_of_ble_eq_true rfl) dX11_pattern_97) (fun v58 h59 => ?_)
    refine vv_new (pc := 100) X tyX14 rfl in_X14 tyX14_ok q1561 q1562 q174 ndX14 (by decide) dX11_pattern_100 (fun v62 h63 => ?_)
    refine vv_dup (pc := 103) X rfl dX11_pattern_103 ?_
    refine vv_aload_n (pc := 104) X (kf := 2) (i := 2) rfl 2 rfl dX11_pattern_104 ?_
    refine vv_bnd (fun b66 e67 => ?_)
    refine vv_callV (pc := 105) (rest := [LR v62, LI v58, LR v56]) (by rw [e67]; rfl) (fun r8 k8 e8 => zz_callI X (m_X14_init (hlM X) _ _ _ _ _ e8) q1563 q1564 q174 q1565 rfl nh_X14 rfl (by decide) (by decide) (Nat.le_of_ble_eq_true rfl) dX11_pattern_105) (fun v64 h65 => ?_)
    refine vv_aastore (pc := 108) X (fun _ z => by cases List.mem_singleton.mp z; exact ca_RenamedWords_Word_11) dX11_pattern_108 (fun h68 => ?_)
    refine vv_aload_n (pc := 109) X (kf := 0) (i := 0) rfl 0 rfl dX11_pattern_109 ?_
    refine vv_getR (pc := 110) X (fun _ z => by cases List.mem_singleton.mp z; exact fl_X11_25_8) dX11_pattern_110 (fun v69 => ?_)
    refine vv_getR (pc := 113) X (fun _ z => by cases List.mem_singleton.mp z; exact fl_X11_105_1) dX11_pattern_113 (fun v70 => ?_)
    refine vv_aload_n (pc := 116) X (kf := 1) (i := 1) rfl 1 rfl dX11_pattern_116 ?_
    refine vv_rcv (fun b73 t9 c9 fs9 e74 g9 k9 => ?_)
    cases List.mem_singleton.mp k9
    refine vv_callV (pc := 117) (rest := []) (by rw [e74]; rfl) (fun r8 k8 e8 => zz_callV X (m_X3_comes (hlM X) _ _ _ _ _ e8) g9 rfl rfl q1571 q1572 q1573 q134 q1574 nh_X3 rfl (by decide) (by decide) (Nat.le_of_ble_eq_true rfl) dX11_pattern_117) (fun v71 h72 => ?_)
    exact vv_vreturn X rfl rfl dX11_pattern_120
  · exact vvx_out X (by decide) rfl
noncomputable def b_X11_pattern_52 (x0 : Option Nat) (x1 : Option Nat) (s0 : Int) (s1 : Option Nat) (h : HP) : Option ((Nat ⊕ Unit) × HP) :=
  (rcv h s1 [8]).bind fun b30 =>
  hbx (f_X10_must b30 s0 3 h) (fun q32 h33 =>
      some (.inl q32, h33)) fun _ h29 =>
  (rcv h29 x0 [8]).bind fun b36 =>
  hb (f_X10_next b36 h29) fun _ h35 =>
  (rcv h35 x0 [8]).bind fun b40 =>
  hbx (f_X10_letters b40 h35) (fun q42 h43 =>
      some (.inl q42, h43)) fun v38 h39 =>
  (alen h39 v38).bind fun v44 =>
  iLT 20 v44
    (b_X11_pattern_78 x0 x1 v38 0 x0 h39)
    (b_X11_pattern_78 x0 x1 v38 1 x0 h39)
theorem B_X11_pattern_52 {M : hp_M} {G : va_G} {h0 : HP} (X : hp_X M G h0 "RenamedWords$SetupReader" "pattern" cX11_pattern 3 none [] 9 281) (x0 : Option Nat) (x1 : Option Nat) (s0 : Int) (s1 : Option Nat) (h : HP) : vv M G h0 3 (hp_End M G h0) xV h 52 [(0, LR x0), (1, LR x1)] [LI s0, LR s1] (b_X11_pattern_52 x0 x1 s0 s1 h) := by
  unfold b_X11_pattern_52
  refine vv_iconst (pc := 52) X dX11_pattern_52 ?_
  refine vv_rcv (fun b30 t9 c9 fs9 e31 g9 k9 => ?_)
  cases List.mem_singleton.mp k9
  refine vv_xallV (pc := 53) (rest := []) (by rw [e31]; rfl) (fun r8 k8 e8 => zz_callU X (m_X10_must (hlM X) _ _ _ _ _ _ e8) g9 rfl q964 q965 (va_Decl.of (X.1.2.2.2.2 _ q968) (X.1.2.2.2.2 _ q969)) (by decide) q968 q967 q165 q969 rfl (by decide) (by decide) (Nat.le_of_ble_eq_true rfl) dX11_pattern_53) (fun v28 h29 => ?_) (fun q32 h33 => ?_)
  · refine vv_aload_n (pc := 56) X (kf := 0) (i := 0) rfl 0 rfl dX11_pattern_56 ?_
    refine vv_rcv (fun b36 t9 c9 fs9 e37 g9 k9 => ?_)
    cases List.mem_singleton.mp k9
    refine vv_callV (pc := 57) (rest := []) (by rw [e37]; rfl) (fun r8 k8 e8 => zz_callU X (m_X10_next (hlM X) _ _ _ _ e8) g9 rfl q998 q999 (va_Decl.of (X.1.2.2.2.2 _ q860) (X.1.2.2.2.2 _ q864)) (by decide) q860 q1001 q165 q864 rfl (by decide) (by decide) (Nat.le_of_ble_eq_true rfl) dX11_pattern_57) (fun v34 h35 => ?_)
    refine vv_aload_n (pc := 60) X (kf := 0) (i := 0) rfl 0 rfl dX11_pattern_60 ?_
    refine vv_rcv (fun b40 t9 c9 fs9 e41 g9 k9 => ?_)
    cases List.mem_singleton.mp k9
    refine vv_xallR (pc := 61) (rest := []) (by rw [e41]; rfl) (fun r8 k8 e8 => zz_callU X (m_X10_letters (hlM X) _ _ _ _ e8) g9 rfl q1006 q1007 (va_Decl.of (X.1.2.2.2.2 _ q1010) (X.1.2.2.2.2 _ q1011)) (by decide) q1010 q1009 q165 q1011 rfl (by decide) (by decide) (Nat.le_of_ble_eq_true rfl) dX11_pattern_61) (fun v38 h39 => ?_) (fun q42 h43 => ?_)
    · refine vv_astore_n (pc := 64) (lv' := [(2, LR v38), (0, LR x0), (1, LR x1)]) X (kf := 2) (i := 2) rfl (by decide) rfl dX11_pattern_64 ?_
      refine vv_aload_n (pc := 65) X (kf := 0) (i := 0) rfl 1 rfl dX11_pattern_65 ?_
      refine vv_aload_n (pc := 66) X (kf := 2) (i := 2) rfl 0 rfl dX11_pattern_66 ?_
      refine vv_alen (pc := 67) X dX11_pattern_67 (fun v44 => ?_)
      refine vv_bipush (pc := 68) X (by decide) dX11_pattern_68 ?_
      refine vv_icmp_gt (pc := 70) (tgt := 77) X dX11_pattern_70 rfl ?_ ?_
      · refine vv_iconst (pc := 77) X dX11_pattern_77 ?_
        exact vv_sub [1, 2, 0] (by rfl) (B_X11_pattern_78 X _ _ _ _ _ _)
      · refine vv_iconst (pc := 73) X dX11_pattern_73 ?_
        refine vv_goto (pc := 74) (tgt := 78) X dX11_pattern_74 rfl ?_
        exact vv_sub [1, 2, 0] (by rfl) (B_X11_pattern_78 X _ _ _ _ _ _)
    · exact vvx_out X (by decide) rfl
  · exact vvx_out X (by decide) rfl
noncomputable def b_X11_pattern_18 (x0 : Option Nat) (s0 : Int) (s1 : Option Nat) (h : HP) : Option ((Nat ⊕ Unit) × HP) :=
  (rcv h s1 [8]).bind fun b8 =>
  hbx (f_X10_must b8 s0 5 h) (fun q10 h11 =>
      some (.inl q10, h11)) fun _ h7 =>
  (rcv h7 x0 [8]).bind fun b14 =>
  hb (f_X10_next b14 h7) fun _ h13 =>
  (rcv h13 x0 [8]).bind fun b18 =>
  hbx (f_X10_name b18 h13) (fun q20 h21 =>
      some (.inl q20, h21)) fun v16 h17 =>
  (rdR h17 x0 [8] 7).bind fun v22 =>
  (rdR h17 v22 [1] 1).bind fun v23 =>
  (rcv h17 v23 [2]).bind fun b26 =>
  hb (f_X3_of b26 v16 h17) fun v24 h25 =>
  iEQ v24 (-1)
    (b_X11_pattern_52 x0 v16 1 x0 h25)
    (b_X11_pattern_52 x0 v16 0 x0 h25)
theorem B_X11_pattern_18 {M : hp_M} {G : va_G} {h0 : HP} (X : hp_X M G h0 "RenamedWords$SetupReader" "pattern" cX11_pattern 3 none [] 9 281) (x0 : Option Nat) (s0 : Int) (s1 : Option Nat) (h : HP) : vv M G h0 3 (hp_End M G h0) xV h 18 [(0, LR x0)] [LI s0, LR s1] (b_X11_pattern_18 x0 s0 s1 h) := by
  unfold b_X11_pattern_18
  refine vv_iconst (pc := 18) X dX11_pattern_18 ?_
  refine vv_rcv (fun b8 t9 c9 fs9 e9 g9 k9 => ?_)
  cases List.mem_singleton.mp k9
  refine vv_xallV (pc := 19) (rest := []) (by rw [e9]; rfl) (fun r8 k8 e8 => zz_callU X (m_X10_must (hlM X) _ _ _ _ _ _ e8) g9 rfl q964 q965 (va_Decl.of (X.1.2.2.2.2 _ q968) (X.1.2.2.2.2 _ q969)) (by decide) q968 q967 q165 q969 rfl (by decide) (by decide) (Nat.le_of_ble_eq_true rfl) dX11_pattern_19) (fun v6 h7 => ?_) (fun q10 h11 => ?_)
  · refine vv_aload_n (pc := 22) X (kf := 0) (i := 0) rfl 0 rfl dX11_pattern_22 ?_
    refine vv_rcv (fun b14 t9 c9 fs9 e15 g9 k9 => ?_)
    cases List.mem_singleton.mp k9
    refine vv_callV (pc := 23) (rest := []) (by rw [e15]; rfl) (fun r8 k8 e8 => zz_callU X (m_X10_next (hlM X) _ _ _ _ e8) g9 rfl q998 q999 (va_Decl.of (X.1.2.2.2.2 _ q860) (X.1.2.2.2.2 _ q864)) (by decide) q860 q1001 q165 q864 rfl (by decide) (by decide) (Nat.le_of_ble_eq_true rfl) dX11_pattern_23) (fun v12 h13 => ?_)
    refine vv_aload_n (pc := 26) X (kf := 0) (i := 0) rfl 0 rfl dX11_pattern_26 ?_
    refine vv_rcv (fun b18 t9 c9 fs9 e19 g9 k9 => ?_)
    cases List.mem_singleton.mp k9
    refine vv_xallR (pc := 27) (rest := []) (by rw [e19]; rfl) (fun r8 k8 e8 => zz_callU X (m_X10_name (hlM X) _ _ _ _ e8) g9 rfl q1133 q1134 (va_Decl.of (X.1.2.2.2.2 _ q1137) (X.1.2.2.2.2 _ q1138)) (by decide) q1137 q1136 q165 q1138 rfl (by decide) (by decide) (Nat.le_of_ble_eq_true rfl) dX11_pattern_27) (fun v16 h17 => ?_) (fun q20 h21 => ?_)
    · refine vv_astore_n (pc := 30) (lv' := [(1, LR v16), (0, LR x0)]) X (kf := 1) (i := 1) rfl (by decide) rfl dX11_pattern_30 ?_
      refine vv_aload_n (pc := 31) X (kf := 0) (i := 0) rfl 1 rfl dX11_pattern_31 ?_
      refine vv_aload_n (pc := 32) X (kf := 0) (i := 0) rfl 1 rfl dX11_pattern_32 ?_
      refine vv_getR (pc := 33) X (fun _ z => by cases List.mem_singleton.mp z; exact fl_X11_25_8) dX11_pattern_33 (fun v22 => ?_)
      refine vv_getR (pc := 36) X (fun _ z => by cases List.mem_singleton.mp z; exact fl_X11_105_1) dX11_pattern_36 (fun v23 => ?_)
      refine vv_aload_n (pc := 39) X (kf := 1) (i := 1) rfl 0 rfl dX11_pattern_39 ?_
      refine vv_rcv (fun b26 t9 c9 fs9 e27 g9 k9 => ?_)
      cases List.mem_singleton.mp k9
      refine vv_callI (pc := 40) (rest := [LR x0]) (by rw [e27]; rfl) (fun r8 k8 e8 => zz_callV X (m_X3_of (hlM X) _ _ _ _ _ e8) g9 rfl rfl q1140 q1141 q1142 q134 q1143 nh_X3 rfl (by decide) (by decide) (Nat.le_of_ble_eq_true rfl) dX11_pattern_40) (fun v24 h25 => ?_)
      refine vv_iconst (pc := 43) X dX11_pattern_43 ?_
      refine vv_icmp_ne (pc := 44) (tgt := 51) X dX11_pattern_44 rfl ?_ ?_
      · refine vv_iconst (pc := 51) X dX11_pattern_51 ?_
        exact vv_sub [1, 0] (by rfl) (B_X11_pattern_52 X _ _ _ _ _)
      · refine vv_iconst (pc := 47) X dX11_pattern_47 ?_
        refine vv_goto (pc := 48) (tgt := 52) X dX11_pattern_48 rfl ?_
        exact vv_sub [1, 0] (by rfl) (B_X11_pattern_52 X _ _ _ _ _)
    · exact vvx_out X (by decide) rfl
  · exact vvx_out X (by decide) rfl
noncomputable def f_X11_pattern (a0 : Nat) (h : HP) : Option ((Nat ⊕ Unit) × HP) :=
  (rdR h (some a0) [8] 7).bind fun v1 =>
  (rcv h v1 [1]).bind fun b4 =>
  hb (f_X2_patternMany b4 h) fun v2 h3 =>
  iLE 8 v2
    (b_X11_pattern_18 (some a0) 0 (some a0) h3)
    (b_X11_pattern_18 (some a0) 1 (some a0) h3)
theorem A_X11_pattern {M : hp_M} {G : va_G} {h0 : HP} (X : hp_X M G h0 "RenamedWords$SetupReader" "pattern" cX11_pattern 3 none [] 9 281) (a0 : Nat) (h : HP) : vv M G h0 3 (hp_End M G h0) xV h 0 [(0, LR (some a0))] [] (f_X11_pattern a0 h) := by
  unfold f_X11_pattern
  refine vv_aload_n (pc := 0) X (kf := 0) (i := 0) rfl 0 rfl dX11_pattern_0 ?_
  refine vv_aload_n (pc := 1) X (kf := 0) (i := 0) rfl 0 rfl dX11_pattern_1 ?_
  refine vv_getR (pc := 2) X (fun _ z => by cases List.mem_singleton.mp z; exact fl_X11_25_8) dX11_pattern_2 (fun v1 => ?_)
  refine vv_rcv (fun b4 t9 c9 fs9 e5 g9 k9 => ?_)
  cases List.mem_singleton.mp k9
  refine vv_callI (pc := 5) (rest := [LR (some a0)]) (by rw [e5]; rfl) (fun r8 k8 e8 => zz_callV X (m_X2_patternMany (hlM X) _ _ _ _ e8) g9 rfl rfl q1113 q1114 q1115 q133 q1116 nh_X2 rfl (by decide) (by decide) (Nat.le_of_ble_eq_true rfl) dX11_pattern_5) (fun v2 h3 => ?_)
  refine vv_bipush (pc := 8) X (by decide) dX11_pattern_8 ?_
  refine vv_icmp_ge (pc := 10) (tgt := 17) X dX11_pattern_10 rfl ?_ ?_
  · refine vv_iconst (pc := 17) X dX11_pattern_17 ?_
    exact B_X11_pattern_18 X _ _ _ _
  · refine vv_iconst (pc := 13) X dX11_pattern_13 ?_
    refine vv_goto (pc := 14) (tgt := 18) X dX11_pattern_14 rfl ?_
    exact B_X11_pattern_18 X _ _ _ _
theorem m_X11_pattern {l : Launch} (hl : l.stackTraces = false) {G : va_G} (a0 : Nat) (h : HP) : ∀ r hf, f_X11_pattern a0 h = some (r, hf) → Ct l yX11_pattern (ws_ yX11_pattern cX11_pattern 3 none) 9 281 G h [.ref a0] (xV r) hf :=
  zz_ofW hl (by decide +kernel) (lv := [(0, LR (some a0))]) (by simp [lv_args, lvL, lvV, zz_rfc, zz_rfs, zz_ci, zz_cr, zz_cj, zz_cf, zz_cd]) (by simp [lg_sl, zz_rfc, zz_ci, zz_cr, zz_cj, zz_cf, zz_cd]) (fun _ X => A_X11_pattern X a0 h)
-- X10_number RenamedWords$Reader.number(II)I
noncomputable def b_X10_number_55 (x0 : Option Nat) (s0 : Int) (s1 : Option Nat) (h : HP) : Option ((Nat ⊕ Int) × HP) :=
  (rcv h s1 [8, 12]).bind fun b12 =>
  hbx (f_X10_must b12 s0 2 h) (fun q14 h15 =>
      some (.inl q14, h15)) fun _ h11 =>
  (rdI h11 x0 [8, 12] 3).bind fun v16 =>
  (rcv h11 x0 [8, 12]).bind fun b19 =>
  hb (f_X10_next b19 h11) fun _ h18 =>
  some (.inr v16, h18)
theorem B_X10_number_55 {M : hp_M} {G : va_G} {h0 : HP} (X : hp_X M G h0 "RenamedWords$Reader" "number" cX10_number 4 (some .int) [] 7 281) (x0 : Option Nat) (s0 : Int) (s1 : Option Nat) (h : HP) : vv M G h0 4 (hp_End M G h0) xI h 55 [(0, LR x0)] [LI s0, LR s1] (b_X10_number_55 x0 s0 s1 h) := by
  unfold b_X10_number_55
  refine vv_iconst (pc := 55) X dX10_number_55 ?_
  refine vv_rcv (fun b12 t9 c9 fs9 e13 g9 k9 => ?_)
  refine vv_xallV (pc := 56) (stv := [.int (iI s0), .int (iI 2)].reverse ++ .ref b12 :: List.map lvV []) (rest := []) (by rw [e13]; rfl) (fun r8 k8 e8 => by
      rcases List.mem_cons.mp k9 with rfl | k9
      · exact zz_callW X (m_X10_must (hlM X) _ _ _ _ _ _ e8) g9 rfl q1018 q968 q4100 q165 q969 nh_X10 rfl (by decide) (by decide) (Nat.le_of_ble_eq_true rfl) dX10_number_56
      cases List.mem_singleton.mp k9
      exact zz_callW X (m_X10_must (hlM X) _ _ _ _ _ _ e8) g9 rfl q1018 q968 q4099 q165 q969 nh_X10 rfl (by decide) (by decide) (Nat.le_of_ble_eq_true rfl) dX10_number_56) (fun v10 h11 => ?_) (fun q14 h15 => ?_)
  · refine vv_aload_n (pc := 59) X (kf := 0) (i := 0) rfl 0 rfl dX10_number_59 ?_
    refine vv_getI (pc := 60) X (fun _ z => by rcases List.mem_cons.mp z with rfl | z; exact fl_X10_80_8; cases List.mem_singleton.mp z; exact fl_X10_80_12) dX10_number_60 (fun v16 => ?_)
    refine vv_istore_n (pc := 63) (lv' := [(3, LI v16), (0, LR x0)]) X (kf := 3) (i := 3) rfl (by decide) rfl dX10_number_63 ?_
    refine vv_aload_n (pc := 64) X (kf := 0) (i := 0) rfl 1 rfl dX10_number_64 ?_
    refine vv_rcv (fun b19 t9 c9 fs9 e20 g9 k9 => ?_)
    refine vv_callV (pc := 65) (stv := [].reverse ++ .ref b19 :: List.map lvV []) (rest := []) (by rw [e20]; rfl) (fun r8 k8 e8 => by
        rcases List.mem_cons.mp k9 with rfl | k9
        · exact zz_callW X (m_X10_next (hlM X) _ _ _ _ e8) g9 rfl q859 q860 q863 q165 q864 nh_X10 rfl (by decide) (by decide) (Nat.le_of_ble_eq_true rfl) dX10_number_65
        cases List.mem_singleton.mp k9
        exact zz_callW X (m_X10_next (hlM X) _ _ _ _ e8) g9 rfl q859 q860 q862 q165 q864 nh_X10 rfl (by decide) (by decide) (Nat.le_of_ble_eq_true rfl) dX10_number_65) (fun v17 h18 => ?_)
    refine vv_iload_n (pc := 68) X (kf := 3) (i := 3) rfl 0 rfl dX10_number_68 ?_
    exact vv_iretI X rfl rfl dX10_number_69
  · exact vvx_out X (by decide) rfl
noncomputable def b_X10_number_54 (x0 : Option Nat) (s0 : Option Nat) (h : HP) : Option ((Nat ⊕ Int) × HP) :=
  b_X10_number_55 x0 0 s0 h
theorem B_X10_number_54 {M : hp_M} {G : va_G} {h0 : HP} (X : hp_X M G h0 "RenamedWords$Reader" "number" cX10_number 4 (some .int) [] 7 281) (x0 : Option Nat) (s0 : Option Nat) (h : HP) : vv M G h0 4 (hp_End M G h0) xI h 54 [(0, LR x0)] [LR s0] (b_X10_number_54 x0 s0 h) := by
  unfold b_X10_number_54
  refine vv_iconst (pc := 54) X dX10_number_54 ?_
  exact B_X10_number_55 X _ _ _ _
noncomputable def b_X10_number_16 (x0 : Option Nat) (x1 : Int) (x2 : Int) (s0 : Int) (s1 : Option Nat) (h : HP) : Option ((Nat ⊕ Int) × HP) :=
  (rcv h s1 [8, 12]).bind fun b4 =>
  hbx (f_X10_must b4 s0 1 h) (fun q6 h7 =>
      some (.inl q6, h7)) fun _ h3 =>
  (rdI h3 x0 [8, 12] 1).bind fun v8 =>
  (rdI h3 x0 [8, 12] 2).bind fun v9 =>
  iLT 6 (v8 - v9)
    (b_X10_number_54 x0 x0 h3)
    ((rdI h3 x0 [8, 12] 3).bind fun v21 =>
    hb (f_X1_in (iL v21) (iL x1) (iL x2) h3) fun v22 h23 =>
    iEQ v22 0
      (b_X10_number_54 x0 x0 h23)
      (b_X10_number_55 x0 1 x0 h23))
theorem B_X10_number_16 {M : hp_M} {G : va_G} {h0 : HP} (X : hp_X M G h0 "RenamedWords$Reader" "number" cX10_number 4 (some .int) [] 7 281) (x0 : Option Nat) (x1 : Int) (x2 : Int) (s0 : Int) (s1 : Option Nat) (h : HP) : vv M G h0 4 (hp_End M G h0) xI h 16 [(0, LR x0), (1, LI x1), (2, LI x2)] [LI s0, LR s1] (b_X10_number_16 x0 x1 x2 s0 s1 h) := by
  unfold b_X10_number_16
  refine vv_iconst (pc := 16) X dX10_number_16 ?_
  refine vv_rcv (fun b4 t9 c9 fs9 e5 g9 k9 => ?_)
  refine vv_xallV (pc := 17) (stv := [.int (iI s0), .int (iI 1)].reverse ++ .ref b4 :: List.map lvV []) (rest := []) (by rw [e5]; rfl) (fun r8 k8 e8 => by
      rcases List.mem_cons.mp k9 with rfl | k9
      · exact zz_callW X (m_X10_must (hlM X) _ _ _ _ _ _ e8) g9 rfl q1018 q968 q4100 q165 q969 nh_X10 rfl (by decide) (by decide) (Nat.le_of_ble_eq_true rfl) dX10_number_17
      cases List.mem_singleton.mp k9
      exact zz_callW X (m_X10_must (hlM X) _ _ _ _ _ _ e8) g9 rfl q1018 q968 q4099 q165 q969 nh_X10 rfl (by decide) (by decide) (Nat.le_of_ble_eq_true rfl) dX10_number_17) (fun v2 h3 => ?_) (fun q6 h7 => ?_)
  · refine vv_aload_n (pc := 20) X (kf := 0) (i := 0) rfl 0 rfl dX10_number_20 ?_
    refine vv_aload_n (pc := 21) X (kf := 0) (i := 0) rfl 0 rfl dX10_number_21 ?_
    refine vv_getI (pc := 22) X (fun _ z => by rcases List.mem_cons.mp z with rfl | z; exact fl_X10_44_8; cases List.mem_singleton.mp z; exact fl_X10_44_12) dX10_number_22 (fun v8 => ?_)
    refine vv_aload_n (pc := 25) X (kf := 0) (i := 0) rfl 0 rfl dX10_number_25 ?_
    refine vv_getI (pc := 26) X (fun _ z => by rcases List.mem_cons.mp z with rfl | z; exact fl_X10_51_8; cases List.mem_singleton.mp z; exact fl_X10_51_12) dX10_number_26 (fun v9 => ?_)
    refine vv_isub (pc := 29) X dX10_number_29 ?_
    refine vv_bipush (pc := 30) X (by decide) dX10_number_30 ?_
    refine vv_icmp_gt (pc := 32) (tgt := 54) X dX10_number_32 rfl ?_ ?_
    · exact vv_sub [0] (by rfl) (B_X10_number_54 X _ _ _)
    · refine vv_aload_n (pc := 35) X (kf := 0) (i := 0) rfl 0 rfl dX10_number_35 ?_
      refine vv_getI (pc := 36) X (fun _ z => by rcases List.mem_cons.mp z with rfl | z; exact fl_X10_80_8; cases List.mem_singleton.mp z; exact fl_X10_80_12) dX10_number_36 (fun v21 => ?_)
      refine vv_i2l (pc := 39) X dX10_number_39 ?_
      refine vv_iload_n (pc := 40) X (kf := 1) (i := 1) rfl 1 rfl dX10_number_40 ?_
      refine vv_i2l (pc := 41) X dX10_number_41 ?_
      refine vv_iload_n (pc := 42) X (kf := 2) (i := 2) rfl 2 rfl dX10_number_42 ?_
      refine vv_i2l (pc := 43) X dX10_number_43 ?_
      refine vv_callI (pc := 44) (rest := [LR x0]) (by rfl) (fun r8 k8 e8 => zz_callSN X (m_X1_in (hlM X) _ _ _ _ _ _ e8) q872 q873 q132 q874 nh_X1 rfl (by decide) (by decide) (Nat.le_of_ble_eq_true rfl) dX10_number_44) (fun v22 h23 => ?_)
      refine vv_if_eq (pc := 47) (tgt := 54) X dX10_number_47 rfl ?_ ?_
      · exact vv_sub [0] (by rfl) (B_X10_number_54 X _ _ _)
      · refine vv_iconst (pc := 50) X dX10_number_50 ?_
        refine vv_goto (pc := 51) (tgt := 55) X dX10_number_51 rfl ?_
        exact vv_sub [0] (by rfl) (B_X10_number_55 X _ _ _ _)
  · exact vvx_out X (by decide) rfl
noncomputable def f_X10_number (a0 : Nat) (a1 : Int) (a2 : Int) (h : HP) : Option ((Nat ⊕ Int) × HP) :=
  (rdR h (some a0) [8, 12] 4).bind fun v1 =>
  rEQ v1 (hp_c h 102)
    (b_X10_number_16 (some a0) a1 a2 1 (some a0) h)
    (b_X10_number_16 (some a0) a1 a2 0 (some a0) h)
theorem A_X10_number {M : hp_M} {G : va_G} {h0 : HP} (X : hp_X M G h0 "RenamedWords$Reader" "number" cX10_number 4 (some .int) [] 7 281) (a0 : Nat) (a1 : Int) (a2 : Int) (h : HP) : vv M G h0 4 (hp_End M G h0) xI h 0 [(0, LR (some a0)), (1, LI a1), (2, LI a2)] [] (f_X10_number a0 a1 a2 h) := by
  unfold f_X10_number
  refine vv_aload_n (pc := 0) X (kf := 0) (i := 0) rfl 0 rfl dX10_number_0 ?_
  refine vv_aload_n (pc := 1) X (kf := 0) (i := 0) rfl 0 rfl dX10_number_1 ?_
  refine vv_getR (pc := 2) X (fun _ z => by rcases List.mem_cons.mp z with rfl | z; exact fl_X10_28_8; cases List.mem_singleton.mp z; exact fl_X10_28_12) dX10_number_2 (fun v1 => ?_)
  refine vv_gets (pc := 5) (w := LR (hp_c h 102)) X (gs_3 _) rfl q904 dX10_number_5 ?_
  refine vv_acmp_ne (pc := 8) (tgt := 15) X dX10_number_8 rfl ?_ ?_
  · refine vv_iconst (pc := 15) X dX10_number_15 ?_
    exact B_X10_number_16 X _ _ _ _ _ _
  · refine vv_iconst (pc := 11) X dX10_number_11 ?_
    refine vv_goto (pc := 12) (tgt := 16) X dX10_number_12 rfl ?_
    exact B_X10_number_16 X _ _ _ _ _ _
theorem m_X10_number {l : Launch} (hl : l.stackTraces = false) {G : va_G} (a0 : Nat) (a1 : Int) (a2 : Int) (h : HP) : ∀ r hf, f_X10_number a0 a1 a2 h = some (r, hf) → Ct l yX10_number (ws_ yX10_number cX10_number 4 (some .int)) 7 281 G h [.ref a0, .int (iI a1), .int (iI a2)] (xI r) hf :=
  zz_ofW hl (by decide +kernel) (lv := [(0, LR (some a0)), (1, LI a1), (2, LI a2)]) (by simp [lv_args, lvL, lvV, zz_rfc, zz_rfs, zz_ci, zz_cr, zz_cj, zz_cf, zz_cd]) (by simp [lg_sl, zz_rfc, zz_ci, zz_cr, zz_cj, zz_cf, zz_cd]) (fun _ X => A_X10_number X a0 a1 a2 h)
-- X11_firm RenamedWords$SetupReader.firm()V
noncomputable def b_X11_firm_13 (x0 : Option Nat) (s0 : Int) (s1 : Option Nat) (h : HP) : Option ((Nat ⊕ Unit) × HP) :=
  (rcv h s1 [8]).bind fun b4 =>
  hbx (f_X10_must b4 s0 3 h) (fun q6 h7 =>
      some (.inl q6, h7)) fun _ h3 =>
  (wrZ h3 x0 [8] 8 1).bind fun h8 =>
  (rcv h8 x0 [8]).bind fun b11 =>
  hb (f_X10_next b11 h8) fun _ h10 =>
  (rdR h10 x0 [8] 7).bind fun v13 =>
  (rcv h10 x0 [8]).bind fun b16 =>
  hbx (f_X10_number b16 0 26 h10) (fun q18 h19 =>
      some (.inl q18, h19)) fun v14 h15 =>
  (wrI h15 v13 [1] 7 v14).bind fun h20 =>
  some (.inr (), h20)
theorem B_X11_firm_13 {M : hp_M} {G : va_G} {h0 : HP} (X : hp_X M G h0 "RenamedWords$SetupReader" "firm" cX11_firm 1 none [] 8 312) (x0 : Option Nat) (s0 : Int) (s1 : Option Nat) (h : HP) : vv M G h0 1 (hp_End M G h0) xV h 13 [(0, LR x0)] [LI s0, LR s1] (b_X11_firm_13 x0 s0 s1 h) := by
  unfold b_X11_firm_13
  refine vv_iconst (pc := 13) X dX11_firm_13 ?_
  refine vv_rcv (fun b4 t9 c9 fs9 e5 g9 k9 => ?_)
  cases List.mem_singleton.mp k9
  refine vv_xallV (pc := 14) (rest := []) (by rw [e5]; rfl) (fun r8 k8 e8 => zz_callU X (m_X10_must (hlM X) _ _ _ _ _ _ e8) g9 rfl q964 q965 (va_Decl.of (X.1.2.2.2.2 _ q968) (X.1.2.2.2.2 _ q969)) (by decide) q968 q967 q165 q969 rfl (by decide) (by decide) (Nat.le_of_ble_eq_true rfl) dX11_firm_14) (fun v2 h3 => ?_) (fun q6 h7 => ?_)
  · refine vv_aload_n (pc := 17) X (kf := 0) (i := 0) rfl 0 rfl dX11_firm_17 ?_
    refine vv_iconst (pc := 18) X dX11_firm_18 ?_
    refine vv_putZ (pc := 19) (fin := false) X (fun _ z => by cases List.mem_singleton.mp z; exact fl_X11_126_8) (fun z => nomatch z) (fun z => nomatch z) dX11_firm_19 (fun h8 => ?_)
    refine vv_aload_n (pc := 22) X (kf := 0) (i := 0) rfl 0 rfl dX11_firm_22 ?_
    refine vv_rcv (fun b11 t9 c9 fs9 e12 g9 k9 => ?_)
    cases List.mem_singleton.mp k9
    refine vv_callV (pc := 23) (rest := []) (by rw [e12]; rfl) (fun r8 k8 e8 => zz_callU X (m_X10_next (hlM X) _ _ _ _ e8) g9 rfl q998 q999 (va_Decl.of (X.1.2.2.2.2 _ q860) (X.1.2.2.2.2 _ q864)) (by decide) q860 q1001 q165 q864 rfl (by decide) (by decide) (Nat.le_of_ble_eq_true rfl) dX11_firm_23) (fun v9 h10 => ?_)
    refine vv_aload_n (pc := 26) X (kf := 0) (i := 0) rfl 0 rfl dX11_firm_26 ?_
    refine vv_getR (pc := 27) X (fun _ z => by cases List.mem_singleton.mp z; exact fl_X11_25_8) dX11_firm_27 (fun v13 => ?_)
    refine vv_aload_n (pc := 30) X (kf := 0) (i := 0) rfl 0 rfl dX11_firm_30 ?_
    refine vv_iconst (pc := 31) X dX11_firm_31 ?_
    refine vv_bipush (pc := 32) X (by decide) dX11_firm_32 ?_
    refine vv_rcv (fun b16 t9 c9 fs9 e17 g9 k9 => ?_)
    cases List.mem_singleton.mp k9
    refine vv_xallI (pc := 34) (rest := [LR v13]) (by rw [e17]; rfl) (fun r8 k8 e8 => zz_callU X (m_X10_number (hlM X) _ _ _ _ _ _ e8) g9 rfl q1809 q1810 (va_Decl.of (X.1.2.2.2.2 _ q1813) (X.1.2.2.2.2 _ q1814)) (by decide) q1813 q1812 q165 q1814 rfl (by decide) (by decide) (Nat.le_of_ble_eq_true rfl) dX11_firm_34) (fun v14 h15 => ?_) (fun q18 h19 => ?_)
    · refine vv_putI (pc := 37) (fin := false) X (fun _ z => by cases List.mem_singleton.mp z; exact fl_X11_134_1) (fun z => nomatch z) (fun z => nomatch z) dX11_firm_37 (fun h20 => ?_)
      exact vv_vreturn X rfl rfl dX11_firm_40
    · exact vvx_out X (by decide) rfl
  · exact vvx_out X (by decide) rfl
noncomputable def f_X11_firm (a0 : Nat) (h : HP) : Option ((Nat ⊕ Unit) × HP) :=
  (rdI h (some a0) [8] 8).bind fun v1 =>
  iEQ v1 0
    (b_X11_firm_13 (some a0) 1 (some a0) h)
    (b_X11_firm_13 (some a0) 0 (some a0) h)
theorem A_X11_firm {M : hp_M} {G : va_G} {h0 : HP} (X : hp_X M G h0 "RenamedWords$SetupReader" "firm" cX11_firm 1 none [] 8 312) (a0 : Nat) (h : HP) : vv M G h0 1 (hp_End M G h0) xV h 0 [(0, LR (some a0))] [] (f_X11_firm a0 h) := by
  unfold f_X11_firm
  refine vv_aload_n (pc := 0) X (kf := 0) (i := 0) rfl 0 rfl dX11_firm_0 ?_
  refine vv_aload_n (pc := 1) X (kf := 0) (i := 0) rfl 0 rfl dX11_firm_1 ?_
  refine vv_getI (pc := 2) X (fun _ z => by cases List.mem_singleton.mp z; exact fl_X11_126_8) dX11_firm_2 (fun v1 => ?_)
  refine vv_if_ne (pc := 5) (tgt := 12) X dX11_firm_5 rfl ?_ ?_
  · refine vv_iconst (pc := 12) X dX11_firm_12 ?_
    exact B_X11_firm_13 X _ _ _ _
  · refine vv_iconst (pc := 8) X dX11_firm_8 ?_
    refine vv_goto (pc := 9) (tgt := 13) X dX11_firm_9 rfl ?_
    exact B_X11_firm_13 X _ _ _ _
theorem m_X11_firm {l : Launch} (hl : l.stackTraces = false) {G : va_G} (a0 : Nat) (h : HP) : ∀ r hf, f_X11_firm a0 h = some (r, hf) → Ct l yX11_firm (ws_ yX11_firm cX11_firm 1 none) 8 312 G h [.ref a0] (xV r) hf :=
  zz_ofW hl (by decide +kernel) (lv := [(0, LR (some a0))]) (by simp [lv_args, lvL, lvV, zz_rfc, zz_rfs, zz_ci, zz_cr, zz_cj, zz_cf, zz_cd]) (by simp [lg_sl, zz_rfc, zz_ci, zz_cr, zz_cj, zz_cf, zz_cd]) (fun _ X => A_X11_firm X a0 h)
-- X11_statement RenamedWords$SetupReader.statement()V
noncomputable def b_X11_statement_108 (h : HP) : Option ((Nat ⊕ Unit) × HP) :=
  some (.inr (), h)
theorem B_X11_statement_108 {M : hp_M} {G : va_G} {h0 : HP} (X : hp_X M G h0 "RenamedWords$SetupReader" "statement" cX11_statement 3 none [] 10 340) (h : HP) : vv M G h0 3 (hp_End M G h0) xV h 108 [] [] (b_X11_statement_108 h) := by
  unfold b_X11_statement_108
  exact vv_vreturn X rfl rfl dX11_statement_108
noncomputable def b_X11_statement_61 (x0 : Option Nat) (x2 : Int) (h : HP) : Option ((Nat ⊕ Unit) × HP) :=
  iIN x2
    (if x2 = 0 then
      (rcv h x0 [8]).bind fun b15 =>
      hbx (f_X11_pattern b15 h) (fun q17 h18 =>
          some (.inl q17, h18)) fun _ h14 =>
      b_X11_statement_108 h14
    else
    if x2 = 1 then
      (rcv h x0 [8]).bind fun b21 =>
      hbx (f_X11_firm b21 h) (fun q23 h24 =>
          some (.inl q23, h24)) fun _ h20 =>
      b_X11_statement_108 h20
    else
    (rcv h x0 [8]).bind fun b27 =>
    hbx (f_X10_must b27 0 1 h) (fun q29 h30 =>
        some (.inl q29, h30)) fun _ h26 =>
    b_X11_statement_108 h26)
theorem B_X11_statement_61 {M : hp_M} {G : va_G} {h0 : HP} (X : hp_X M G h0 "RenamedWords$SetupReader" "statement" cX11_statement 3 none [] 10 340) (x0 : Option Nat) (x2 : Int) (h : HP) : vv M G h0 3 (hp_End M G h0) xV h 61 [(0, LR x0), (2, LI x2)] [] (b_X11_statement_61 x0 x2 h) := by
  unfold b_X11_statement_61
  refine vv_iload_n (pc := 61) X (kf := 2) (i := 2) rfl 1 rfl dX11_statement_61 ?_
  refine vv_iIN (fun hr => ?_)
  refine vv_if (fun e0 => ?_) (fun e0 => ?_)
  · refine vv_lsw (pc := 62) (off := 26) (tgt := 88) X dX11_statement_62 hr (by decide +kernel) (by rw [e0]; rfl) rfl ?_
    refine vv_aload_n (pc := 88) X (kf := 0) (i := 0) rfl 0 rfl dX11_statement_88 ?_
    refine vv_rcv (fun b15 t9 c9 fs9 e16 g9 k9 => ?_)
    cases List.mem_singleton.mp k9
    refine vv_xallV (pc := 89) (rest := []) (by rw [e16]; rfl) (fun r8 k8 e8 => zz_callV X (m_X11_pattern (hlM X) _ _ _ _ e8) g9 rfl rfl q1109 q1111 qs5 q166 q1112 nh_X11 rfl (by decide) (by decide) (Nat.le_of_ble_eq_true rfl) dX11_statement_89) (fun v13 h14 => ?_) (fun q17 h18 => ?_)
    · refine vv_goto (pc := 92) (tgt := 108) X dX11_statement_92 rfl ?_
      exact vv_sub [] (by rfl) (B_X11_statement_108 X _)
    · exact vvx_out X (by decide) rfl
  refine vv_if (fun e1 => ?_) (fun e1 => ?_)
  · refine vv_lsw (pc := 62) (off := 33) (tgt := 95) X dX11_statement_62 hr (by decide +kernel) (by rw [e1]; rfl) rfl ?_
    refine vv_aload_n (pc := 95) X (kf := 0) (i := 0) rfl 0 rfl dX11_statement_95 ?_
    refine vv_rcv (fun b21 t9 c9 fs9 e22 g9 k9 => ?_)
    cases List.mem_singleton.mp k9
    refine vv_xallV (pc := 96) (rest := []) (by rw [e22]; rfl) (fun r8 k8 e8 => zz_callV X (m_X11_firm (hlM X) _ _ _ _ e8) g9 rfl rfl q1805 q1807 qs9 q166 q1808 nh_X11 rfl (by decide) (by decide) (Nat.le_of_ble_eq_true rfl) dX11_statement_96) (fun v19 h20 => ?_) (fun q23 h24 => ?_)
    · refine vv_goto (pc := 99) (tgt := 108) X dX11_statement_99 rfl ?_
      exact vv_sub [] (by rfl) (B_X11_statement_108 X _)
    · exact vvx_out X (by decide) rfl
  refine vv_lsw (pc := 62) (off := 40) (tgt := 102) X dX11_statement_62 hr (by decide +kernel) (by simp [Op.lookupswitch.offset, Ne.symm e0, Ne.symm e1]) rfl ?_
  refine vv_aload_n (pc := 102) X (kf := 0) (i := 0) rfl 0 rfl dX11_statement_102 ?_
  refine vv_iconst (pc := 103) X dX11_statement_103 ?_
  refine vv_iconst (pc := 104) X dX11_statement_104 ?_
  refine vv_rcv (fun b27 t9 c9 fs9 e28 g9 k9 => ?_)
  cases List.mem_singleton.mp k9
  refine vv_xallV (pc := 105) (rest := []) (by rw [e28]; rfl) (fun r8 k8 e8 => zz_callU X (m_X10_must (hlM X) _ _ _ _ _ _ e8) g9 rfl q964 q965 (va_Decl.of (X.1.2.2.2.2 _ q968) (X.1.2.2.2.2 _ q969)) (by decide) q968 q967 q165 q969 rfl (by decide) (by decide) (Nat.le_of_ble_eq_true rfl) dX11_statement_105) (fun v25 h26 => ?_) (fun q29 h30 => ?_)
  · exact vv_sub [] (by rfl) (B_X11_statement_108 X _)
  · exact vvx_out X (by decide) rfl
noncomputable def f_X11_statement (a0 : Nat) (h : HP) : Option ((Nat ⊕ Unit) × HP) :=
  (rcv h (some a0) [8]).bind fun b3 =>
  hb (f_X10_word b3 h) fun v1 h2 =>
  (rcv h2 v1 [26]).bind fun b7 =>
  hb (f_J11_hashCode b7 h2) fun v5 h6 =>
  iIN v5
    (if v5 = (-791090288) then
      (rcv h6 v1 [26]).bind fun b11 =>
      hb (f_J11_equals b11 (hp_c h6 6) h6) fun v9 h10 =>
      iEQ v9 0
        (b_X11_statement_61 (some a0) (-1) h10)
        (b_X11_statement_61 (some a0) 0 h10)
    else
    if v5 = 3143230 then
      (rcv h6 v1 [26]).bind fun b33 =>
      hb (f_J11_equals b33 (hp_c h6 7) h6) fun v31 h32 =>
      iEQ v31 0
        (b_X11_statement_61 (some a0) (-1) h32)
        (b_X11_statement_61 (some a0) 1 h32)
    else
    b_X11_statement_61 (some a0) (-1) h6)
theorem A_X11_statement {M : hp_M} {G : va_G} {h0 : HP} (X : hp_X M G h0 "RenamedWords$SetupReader" "statement" cX11_statement 3 none [] 10 340) (a0 : Nat) (h : HP) : vv M G h0 3 (hp_End M G h0) xV h 0 [(0, LR (some a0))] [] (f_X11_statement a0 h) := by
  unfold f_X11_statement
  refine vv_aload_n (pc := 0) X (kf := 0) (i := 0) rfl 0 rfl dX11_statement_0 ?_
  refine vv_rcv (fun b3 t9 c9 fs9 e4 g9 k9 => ?_)
  cases List.mem_singleton.mp k9
  refine vv_callR (pc := 1) (rest := []) (by rw [e4]; rfl) (fun r8 k8 e8 => zz_callU X (m_X10_word (hlM X) _ _ _ _ e8) g9 rfl q949 q950 (va_Decl.of (X.1.2.2.2.2 _ q953) (X.1.2.2.2.2 _ q954)) (by decide) q953 q952 q165 q954 rfl (by decide) (by decide) (Nat.le_of_ble_eq_true rfl) dX11_statement_1) (fun v1 h2 => ?_)
  refine vv_astore_n (pc := 4) (lv' := [(1, LR v1), (0, LR (some a0))]) X (kf := 1) (i := 1) rfl (by decide) rfl dX11_statement_4 ?_
  refine vv_iconst (pc := 5) X dX11_statement_5 ?_
  refine vv_istore_n (pc := 6) (lv' := [(2, LI (-1)), (1, LR v1), (0, LR (some a0))]) X (kf := 2) (i := 2) rfl (by decide) rfl dX11_statement_6 ?_
  refine vv_aload_n (pc := 7) X (kf := 1) (i := 1) rfl 1 rfl dX11_statement_7 ?_
  refine vv_rcv (fun b7 t9 c9 fs9 e8 g9 k9 => ?_)
  cases List.mem_singleton.mp k9
  refine vv_callI (pc := 8) (rest := []) (by rw [e8]; rfl) (fun r8 k8 e8 => zz_callV X (m_J11_hashCode (hlM X) _ _ _ _ e8) g9 rfl rfl q1050 q1051 q1052 q146 q1053 nh_J11 rfl (by decide) (by decide) (Nat.le_of_ble_eq_true rfl) dX11_statement_8) (fun v5 h6 => ?_)
  refine vv_iIN (fun hr => ?_)
  refine vv_if (fun e0 => ?_) (fun e0 => ?_)
  · refine vv_lsw (pc := 11) (off := 25) (tgt := 36) X dX11_statement_11 hr (by decide +kernel) (by rw [e0]; rfl) rfl ?_
    refine vv_aload_n (pc := 36) X (kf := 1) (i := 1) rfl 1 rfl dX11_statement_36 ?_
    refine vv_ldcS (pc := 37) (i := 6) X (List.mem_of_getElem? (i := 6) rfl) dX11_statement_37 ?_
    refine vv_rcv (fun b11 t9 c9 fs9 e12 g9 k9 => ?_)
    cases List.mem_singleton.mp k9
    refine vv_callI (pc := 39) (rest := []) (by rw [e12]; rfl) (fun r8 k8 e8 => zz_callV X (m_J11_equals (hlM X) _ _ _ _ _ e8) g9 rfl rfl q956 q957 q958 q146 q959 nh_J11 rfl (by decide) (by decide) (Nat.le_of_ble_eq_true rfl) dX11_statement_39) (fun v9 h10 => ?_)
    refine vv_if_eq (pc := 42) (tgt := 61) X dX11_statement_42 rfl ?_ ?_
    · exact vv_sub [2, 0] (by rfl) (B_X11_statement_61 X _ _ _)
    · refine vv_iconst (pc := 45) X dX11_statement_45 ?_
      refine vv_istore_n (pc := 46) (lv' := [(2, LI 0), (1, LR v1), (0, LR (some a0))]) X (kf := 2) (i := 2) rfl (by decide) rfl dX11_statement_46 ?_
      refine vv_goto (pc := 47) (tgt := 61) X dX11_statement_47 rfl ?_
      exact vv_sub [2, 0] (by rfl) (B_X11_statement_61 X _ _ _)
  refine vv_if (fun e1 => ?_) (fun e1 => ?_)
  · refine vv_lsw (pc := 11) (off := 39) (tgt := 50) X dX11_statement_11 hr (by decide +kernel) (by rw [e1]; rfl) rfl ?_
    refine vv_aload_n (pc := 50) X (kf := 1) (i := 1) rfl 1 rfl dX11_statement_50 ?_
    refine vv_ldcS (pc := 51) (i := 7) X (List.mem_of_getElem? (i := 7) rfl) dX11_statement_51 ?_
    refine vv_rcv (fun b33 t9 c9 fs9 e34 g9 k9 => ?_)
    cases List.mem_singleton.mp k9
    refine vv_callI (pc := 53) (rest := []) (by rw [e34]; rfl) (fun r8 k8 e8 => zz_callV X (m_J11_equals (hlM X) _ _ _ _ _ e8) g9 rfl rfl q956 q957 q958 q146 q959 nh_J11 rfl (by decide) (by decide) (Nat.le_of_ble_eq_true rfl) dX11_statement_53) (fun v31 h32 => ?_)
    refine vv_if_eq (pc := 56) (tgt := 61) X dX11_statement_56 rfl ?_ ?_
    · exact vv_sub [2, 0] (by rfl) (B_X11_statement_61 X _ _ _)
    · refine vv_iconst (pc := 59) X dX11_statement_59 ?_
      refine vv_istore_n (pc := 60) (lv' := [(2, LI 1), (1, LR v1), (0, LR (some a0))]) X (kf := 2) (i := 2) rfl (by decide) rfl dX11_statement_60 ?_
      exact vv_sub [2, 0] (by rfl) (B_X11_statement_61 X _ _ _)
  refine vv_lsw (pc := 11) (off := 50) (tgt := 61) X dX11_statement_11 hr (by decide +kernel) (by simp [Op.lookupswitch.offset, Ne.symm e0, Ne.symm e1]) rfl ?_
  exact vv_sub [2, 0] (by rfl) (B_X11_statement_61 X _ _ _)
theorem m_X11_statement {l : Launch} (hl : l.stackTraces = false) {G : va_G} (a0 : Nat) (h : HP) : ∀ r hf, f_X11_statement a0 h = some (r, hf) → Ct l yX11_statement (ws_ yX11_statement cX11_statement 3 none) 10 340 G h [.ref a0] (xV r) hf :=
  zz_ofW hl (by decide +kernel) (lv := [(0, LR (some a0))]) (by simp [lv_args, lvL, lvV, zz_rfc, zz_rfs, zz_ci, zz_cr, zz_cj, zz_cf, zz_cd]) (by simp [lg_sl, zz_rfc, zz_ci, zz_cr, zz_cj, zz_cf, zz_cd]) (fun _ X => A_X11_statement X a0 h)
-- X10_isEnd RenamedWords$Reader.isEnd()Z
noncomputable def b_X10_isEnd_15 (s0 : Int) (h : HP) : Option ((Int) × HP) :=
  rtZ s0 (some (s0, h))
theorem B_X10_isEnd_15 {M : hp_M} {G : va_G} {h0 : HP} (X : hp_X M G h0 "RenamedWords$Reader" "isEnd" cX10_isEnd 1 (some .boolean) [] 0 0) (s0 : Int) (h : HP) : vv M G h0 1 (hp_End M G h0) jI h 15 [] [LI s0] (b_X10_isEnd_15 s0 h) := by
  unfold b_X10_isEnd_15
  exact vv_iretZ X rfl rfl dX10_isEnd_15
noncomputable def f_X10_isEnd (a0 : Nat) (h : HP) : Option ((Int) × HP) :=
  (rdR h (some a0) [8, 12] 4).bind fun v1 =>
  rEQ v1 (hp_c h 100)
    (b_X10_isEnd_15 1 h)
    (b_X10_isEnd_15 0 h)
theorem A_X10_isEnd {M : hp_M} {G : va_G} {h0 : HP} (X : hp_X M G h0 "RenamedWords$Reader" "isEnd" cX10_isEnd 1 (some .boolean) [] 0 0) (a0 : Nat) (h : HP) : vv M G h0 1 (hp_End M G h0) jI h 0 [(0, LR (some a0))] [] (f_X10_isEnd a0 h) := by
  unfold f_X10_isEnd
  refine vv_aload_n (pc := 0) X (kf := 0) (i := 0) rfl 0 rfl dX10_isEnd_0 ?_
  refine vv_getR (pc := 1) X (fun _ z => by rcases List.mem_cons.mp z with rfl | z; exact fl_X10_28_8; cases List.mem_singleton.mp z; exact fl_X10_28_12) dX10_isEnd_1 (fun v1 => ?_)
  refine vv_gets (pc := 4) (w := LR (hp_c h 100)) X (gs_1 _) rfl q856 dX10_isEnd_4 ?_
  refine vv_acmp_ne (pc := 7) (tgt := 14) X dX10_isEnd_7 rfl ?_ ?_
  · refine vv_iconst (pc := 14) X dX10_isEnd_14 ?_
    exact vv_sub [] (by rfl) (B_X10_isEnd_15 X _ _)
  · refine vv_iconst (pc := 10) X dX10_isEnd_10 ?_
    refine vv_goto (pc := 11) (tgt := 15) X dX10_isEnd_11 rfl ?_
    exact vv_sub [] (by rfl) (B_X10_isEnd_15 X _ _)
theorem m_X10_isEnd {l : Launch} (hl : l.stackTraces = false) {G : va_G} (a0 : Nat) (h : HP) : ∀ r hf, f_X10_isEnd a0 h = some (r, hf) → Ct l yX10_isEnd (ws_ yX10_isEnd cX10_isEnd 1 (some .boolean)) 0 0 G h [.ref a0] (jI r) hf :=
  zz_ofW hl (by decide +kernel) (lv := [(0, LR (some a0))]) (by simp [lv_args, lvL, lvV, zz_rfc, zz_rfs, zz_ci, zz_cr, zz_cj, zz_cf, zz_cd]) (by simp [lg_sl, zz_rfc, zz_ci, zz_cr, zz_cj, zz_cf, zz_cd]) (fun _ X => A_X10_isEnd X a0 h)
-- X11_reads RenamedWords$SetupReader.reads()LRenamedWords$Desk;
noncomputable def c_X11_reads_36 (r36 : Option Nat → HP → Option ((Nat ⊕ Option Nat) × HP)) (x0 : Option Nat) (h : HP) : Option ((Nat ⊕ Option Nat) × HP) :=
  (rcv h x0 [8]).bind fun b31 =>
  hb (f_X10_isSign b31 59 h) fun v29 h30 =>
  iEQ v29 0
    ((rcv h30 x0 [8]).bind fun b35 =>
    hb (f_X10_isEnd b35 h30) fun v33 h34 =>
    (rcv h34 x0 [8]).bind fun b39 =>
    hbx (f_X10_must b39 v33 1 h34) (fun q41 h42 =>
        some (.inl q41, h42)) fun _ h38 =>
    (rdR h38 x0 [8] 7).bind fun v43 =>
    some (.inr v43, h38))
    ((rcv h30 x0 [8]).bind fun b46 =>
    hb (f_X10_next b46 h30) fun _ h45 =>
    (rcv h45 x0 [8]).bind fun b50 =>
    hbx (f_X11_statement b50 h45) (fun q52 h53 =>
        some (.inl q52, h53)) fun _ h49 =>
    r36 x0 h49)
noncomputable def b_X11_reads_36 : Option Nat → HP → Option ((Nat ⊕ Option Nat) × HP) := fx (fun _ _ => none) (c_X11_reads_36) FU
theorem C_X11_reads_36 {M : hp_M} {G : va_G} {h0 : HP} (X : hp_X M G h0 "RenamedWords$SetupReader" "reads" cX11_reads 1 (some (.object "RenamedWords$Desk")) [] 11 370) (r36 : Option Nat → HP → Option ((Nat ⊕ Option Nat) × HP)) (hr36 : ∀ (y0 : Option Nat) (h : HP), vv M G h0 1 (hp_End M G h0) xR h 36 [(0, LR y0)] [] (r36 y0 h)) (x0 : Option Nat) (h : HP) : vv M G h0 1 (hp_End M G h0) xR h 36 [(0, LR x0)] [] (c_X11_reads_36 r36 x0 h) := by
  unfold c_X11_reads_36
  refine vv_aload_n (pc := 36) X (kf := 0) (i := 0) rfl 0 rfl dX11_reads_36 ?_
  refine vv_bipush (pc := 37) X (by decide) dX11_reads_37 ?_
  refine vv_rcv (fun b31 t9 c9 fs9 e32 g9 k9 => ?_)
  cases List.mem_singleton.mp k9
  refine vv_callI (pc := 39) (rest := []) (by rw [e32]; rfl) (fun r8 k8 e8 => zz_callU X (m_X10_isSign (hlM X) _ _ _ _ _ e8) g9 rfl q1040 q1041 (va_Decl.of (X.1.2.2.2.2 _ q1044) (X.1.2.2.2.2 _ q1045)) (by decide) q1044 q1043 q165 q1045 rfl (by decide) (by decide) (Nat.le_of_ble_eq_true rfl) dX11_reads_39) (fun v29 h30 => ?_)
  refine vv_if_eq (pc := 42) (tgt := 56) X dX11_reads_42 rfl ?_ ?_
  · refine vv_aload_n (pc := 56) X (kf := 0) (i := 0) rfl 0 rfl dX11_reads_56 ?_
    refine vv_aload_n (pc := 57) X (kf := 0) (i := 0) rfl 0 rfl dX11_reads_57 ?_
    refine vv_rcv (fun b35 t9 c9 fs9 e36 g9 k9 => ?_)
    cases List.mem_singleton.mp k9
    refine vv_callI (pc := 58) (rest := [LR x0]) (by rw [e36]; rfl) (fun r8 k8 e8 => zz_callU X (m_X10_isEnd (hlM X) _ _ _ _ e8) g9 rfl q1815 q1816 (va_Decl.of (X.1.2.2.2.2 _ q1819) (X.1.2.2.2.2 _ q1820)) (by decide) q1819 q1818 q165 q1820 rfl (by decide) (by decide) (Nat.le_of_ble_eq_true rfl) dX11_reads_58) (fun v33 h34 => ?_)
    refine vv_iconst (pc := 61) X dX11_reads_61 ?_
    refine vv_rcv (fun b39 t9 c9 fs9 e40 g9 k9 => ?_)
    cases List.mem_singleton.mp k9
    refine vv_xallV (pc := 62) (rest := []) (by rw [e40]; rfl) (fun r8 k8 e8 => zz_callU X (m_X10_must (hlM X) _ _ _ _ _ _ e8) g9 rfl q964 q965 (va_Decl.of (X.1.2.2.2.2 _ q968) (X.1.2.2.2.2 _ q969)) (by decide) q968 q967 q165 q969 rfl (by decide) (by decide) (Nat.le_of_ble_eq_true rfl) dX11_reads_62) (fun v37 h38 => ?_) (fun q41 h42 => ?_)
    · refine vv_aload_n (pc := 65) X (kf := 0) (i := 0) rfl 0 rfl dX11_reads_65 ?_
      refine vv_getR (pc := 66) X (fun _ z => by cases List.mem_singleton.mp z; exact fl_X11_25_8) dX11_reads_66 (fun v43 => ?_)
      exact vv_aretO X rfl rfl dX11_reads_69
    · exact vvx_out X (by decide) rfl
  · refine vv_aload_n (pc := 45) X (kf := 0) (i := 0) rfl 0 rfl dX11_reads_45 ?_
    refine vv_rcv (fun b46 t9 c9 fs9 e47 g9 k9 => ?_)
    cases List.mem_singleton.mp k9
    refine vv_callV (pc := 46) (rest := []) (by rw [e47]; rfl) (fun r8 k8 e8 => zz_callU X (m_X10_next (hlM X) _ _ _ _ e8) g9 rfl q998 q999 (va_Decl.of (X.1.2.2.2.2 _ q860) (X.1.2.2.2.2 _ q864)) (by decide) q860 q1001 q165 q864 rfl (by decide) (by decide) (Nat.le_of_ble_eq_true rfl) dX11_reads_46) (fun v44 h45 => ?_)
    refine vv_aload_n (pc := 49) X (kf := 0) (i := 0) rfl 0 rfl dX11_reads_49 ?_
    refine vv_rcv (fun b50 t9 c9 fs9 e51 g9 k9 => ?_)
    cases List.mem_singleton.mp k9
    refine vv_xallV (pc := 50) (rest := []) (by rw [e51]; rfl) (fun r8 k8 e8 => zz_callV X (m_X11_statement (hlM X) _ _ _ _ e8) g9 rfl rfl q1046 q1048 qs4 q166 q1049 nh_X11 rfl (by decide) (by decide) (Nat.le_of_ble_eq_true rfl) dX11_reads_50) (fun v48 h49 => ?_) (fun q52 h53 => ?_)
    · refine vv_goto (pc := 53) (tgt := 36) X dX11_reads_53 rfl ?_
      exact hr36 _ _
    · exact vvx_out X (by decide) rfl
theorem B_X11_reads_36 {M : hp_M} {G : va_G} {h0 : HP} (X : hp_X M G h0 "RenamedWords$SetupReader" "reads" cX11_reads 1 (some (.object "RenamedWords$Desk")) [] 11 370) : ∀ (x0 : Option Nat) (h : HP), vv M G h0 1 (hp_End M G h0) xR h 36 [(0, LR x0)] [] (b_X11_reads_36 x0 h) := by
  unfold b_X11_reads_36
  generalize FU = n
  induction n with
  | zero => intro x0 h; exact vv_none
  | succ n ih => exact C_X11_reads_36 X _ ih
noncomputable def c_X11_reads_22 (r22 : Option Nat → HP → Option ((Nat ⊕ Option Nat) × HP)) (x0 : Option Nat) (h : HP) : Option ((Nat ⊕ Option Nat) × HP) :=
  (rcv h x0 [8]).bind fun b27 =>
  hb (f_X10_isWord b27 h) fun v25 h26 =>
  iEQ v25 0
    (b_X11_reads_36 x0 h26)
    ((rcv h26 x0 [8]).bind fun b56 =>
    hbx (f_X11_textLetters b56 h26) (fun q58 h59 =>
        some (.inl q58, h59)) fun _ h55 =>
    r22 x0 h55)
noncomputable def b_X11_reads_22 : Option Nat → HP → Option ((Nat ⊕ Option Nat) × HP) := fx (fun _ _ => none) (c_X11_reads_22) FU
theorem C_X11_reads_22 {M : hp_M} {G : va_G} {h0 : HP} (X : hp_X M G h0 "RenamedWords$SetupReader" "reads" cX11_reads 1 (some (.object "RenamedWords$Desk")) [] 11 370) (r22 : Option Nat → HP → Option ((Nat ⊕ Option Nat) × HP)) (hr22 : ∀ (y0 : Option Nat) (h : HP), vv M G h0 1 (hp_End M G h0) xR h 22 [(0, LR y0)] [] (r22 y0 h)) (x0 : Option Nat) (h : HP) : vv M G h0 1 (hp_End M G h0) xR h 22 [(0, LR x0)] [] (c_X11_reads_22 r22 x0 h) := by
  unfold c_X11_reads_22
  refine vv_aload_n (pc := 22) X (kf := 0) (i := 0) rfl 0 rfl dX11_reads_22 ?_
  refine vv_rcv (fun b27 t9 c9 fs9 e28 g9 k9 => ?_)
  cases List.mem_singleton.mp k9
  refine vv_callI (pc := 23) (rest := []) (by rw [e28]; rfl) (fun r8 k8 e8 => zz_callU X (m_X10_isWord (hlM X) _ _ _ _ e8) g9 rfl q1036 q1037 (va_Decl.of (X.1.2.2.2.2 _ q1013) (X.1.2.2.2.2 _ q1017)) (by decide) q1013 q1039 q165 q1017 rfl (by decide) (by decide) (Nat.le_of_ble_eq_true rfl) dX11_reads_23) (fun v25 h26 => ?_)
  refine vv_if_eq (pc := 26) (tgt := 36) X dX11_reads_26 rfl ?_ ?_
  · exact B_X11_reads_36 X _ _
  · refine vv_aload_n (pc := 29) X (kf := 0) (i := 0) rfl 0 rfl dX11_reads_29 ?_
    refine vv_rcv (fun b56 t9 c9 fs9 e57 g9 k9 => ?_)
    cases List.mem_singleton.mp k9
    refine vv_xallV (pc := 30) (rest := []) (by rw [e57]; rfl) (fun r8 k8 e8 => zz_callV X (m_X11_textLetters (hlM X) _ _ _ _ e8) g9 rfl rfl q1002 q1004 qs3 q166 q1005 nh_X11 rfl (by decide) (by decide) (Nat.le_of_ble_eq_true rfl) dX11_reads_30) (fun v54 h55 => ?_) (fun q58 h59 => ?_)
    · refine vv_goto (pc := 33) (tgt := 22) X dX11_reads_33 rfl ?_
      exact hr22 _ _
    · exact vvx_out X (by decide) rfl
theorem B_X11_reads_22 {M : hp_M} {G : va_G} {h0 : HP} (X : hp_X M G h0 "RenamedWords$SetupReader" "reads" cX11_reads 1 (some (.object "RenamedWords$Desk")) [] 11 370) : ∀ (x0 : Option Nat) (h : HP), vv M G h0 1 (hp_End M G h0) xR h 22 [(0, LR x0)] [] (b_X11_reads_22 x0 h) := by
  unfold b_X11_reads_22
  generalize FU = n
  induction n with
  | zero => intro x0 h; exact vv_none
  | succ n ih => exact C_X11_reads_22 X _ ih
noncomputable def f_X11_reads (a0 : Nat) (h : HP) : Option ((Nat ⊕ Option Nat) × HP) :=
  (rcv h (some a0) [8]).bind fun b3 =>
  hb (f_X10_word b3 h) fun v1 h2 =>
  (rcv h2 v1 [26]).bind fun b7 =>
  hb (f_J11_equals b7 (hp_c h2 4) h2) fun v5 h6 =>
  (rcv h6 (some a0) [8]).bind fun b11 =>
  hbx (f_X10_must b11 v5 1 h6) (fun q13 h14 =>
      some (.inl q13, h14)) fun _ h10 =>
  (rcv h10 (some a0) [8]).bind fun b17 =>
  hb (f_X10_next b17 h10) fun _ h16 =>
  (rcv h16 (some a0) [8]).bind fun b21 =>
  hbx (f_X11_textLetters b21 h16) (fun q23 h24 =>
      some (.inl q23, h24)) fun _ h20 =>
  b_X11_reads_22 (some a0) h20
theorem A_X11_reads {M : hp_M} {G : va_G} {h0 : HP} (X : hp_X M G h0 "RenamedWords$SetupReader" "reads" cX11_reads 1 (some (.object "RenamedWords$Desk")) [] 11 370) (a0 : Nat) (h : HP) : vv M G h0 1 (hp_End M G h0) xR h 0 [(0, LR (some a0))] [] (f_X11_reads a0 h) := by
  unfold f_X11_reads
  refine vv_aload_n (pc := 0) X (kf := 0) (i := 0) rfl 0 rfl dX11_reads_0 ?_
  refine vv_aload_n (pc := 1) X (kf := 0) (i := 0) rfl 0 rfl dX11_reads_1 ?_
  refine vv_rcv (fun b3 t9 c9 fs9 e4 g9 k9 => ?_)
  cases List.mem_singleton.mp k9
  refine vv_callR (pc := 2) (rest := [LR (some a0)]) (by rw [e4]; rfl) (fun r8 k8 e8 => zz_callU X (m_X10_word (hlM X) _ _ _ _ e8) g9 rfl q949 q950 (va_Decl.of (X.1.2.2.2.2 _ q953) (X.1.2.2.2.2 _ q954)) (by decide) q953 q952 q165 q954 rfl (by decide) (by decide) (Nat.le_of_ble_eq_true rfl) dX11_reads_2) (fun v1 h2 => ?_)
  refine vv_ldcS (pc := 5) (i := 4) X (List.mem_of_getElem? (i := 4) rfl) dX11_reads_5 ?_
  refine vv_rcv (fun b7 t9 c9 fs9 e8 g9 k9 => ?_)
  cases List.mem_singleton.mp k9
  refine vv_callI (pc := 7) (rest := [LR (some a0)]) (by rw [e8]; rfl) (fun r8 k8 e8 => zz_callV X (m_J11_equals (hlM X) _ _ _ _ _ e8) g9 rfl rfl q956 q957 q958 q146 q959 nh_J11 rfl (by decide) (by decide) (Nat.le_of_ble_eq_true rfl) dX11_reads_7) (fun v5 h6 => ?_)
  refine vv_iconst (pc := 10) X dX11_reads_10 ?_
  refine vv_rcv (fun b11 t9 c9 fs9 e12 g9 k9 => ?_)
  cases List.mem_singleton.mp k9
  refine vv_xallV (pc := 11) (rest := []) (by rw [e12]; rfl) (fun r8 k8 e8 => zz_callU X (m_X10_must (hlM X) _ _ _ _ _ _ e8) g9 rfl q964 q965 (va_Decl.of (X.1.2.2.2.2 _ q968) (X.1.2.2.2.2 _ q969)) (by decide) q968 q967 q165 q969 rfl (by decide) (by decide) (Nat.le_of_ble_eq_true rfl) dX11_reads_11) (fun v9 h10 => ?_) (fun q13 h14 => ?_)
  · refine vv_aload_n (pc := 14) X (kf := 0) (i := 0) rfl 0 rfl dX11_reads_14 ?_
    refine vv_rcv (fun b17 t9 c9 fs9 e18 g9 k9 => ?_)
    cases List.mem_singleton.mp k9
    refine vv_callV (pc := 15) (rest := []) (by rw [e18]; rfl) (fun r8 k8 e8 => zz_callU X (m_X10_next (hlM X) _ _ _ _ e8) g9 rfl q998 q999 (va_Decl.of (X.1.2.2.2.2 _ q860) (X.1.2.2.2.2 _ q864)) (by decide) q860 q1001 q165 q864 rfl (by decide) (by decide) (Nat.le_of_ble_eq_true rfl) dX11_reads_15) (fun v15 h16 => ?_)
    refine vv_aload_n (pc := 18) X (kf := 0) (i := 0) rfl 0 rfl dX11_reads_18 ?_
    refine vv_rcv (fun b21 t9 c9 fs9 e22 g9 k9 => ?_)
    cases List.mem_singleton.mp k9
    refine vv_xallV (pc := 19) (rest := []) (by rw [e22]; rfl) (fun r8 k8 e8 => zz_callV X (m_X11_textLetters (hlM X) _ _ _ _ e8) g9 rfl rfl q1002 q1004 qs3 q166 q1005 nh_X11 rfl (by decide) (by decide) (Nat.le_of_ble_eq_true rfl) dX11_reads_19) (fun v19 h20 => ?_) (fun q23 h24 => ?_)
    · exact B_X11_reads_22 X _ _
    · exact vvx_out X (by decide) rfl
  · exact vvx_out X (by decide) rfl
theorem m_X11_reads {l : Launch} (hl : l.stackTraces = false) {G : va_G} (a0 : Nat) (h : HP) : ∀ r hf, f_X11_reads a0 h = some (r, hf) → Ct l yX11_reads (ws_ yX11_reads cX11_reads 1 (some (.object "RenamedWords$Desk"))) 11 370 G h [.ref a0] (xR r) hf :=
  zz_ofW hl (by decide +kernel) (lv := [(0, LR (some a0))]) (by simp [lv_args, lvL, lvV, zz_rfc, zz_rfs, zz_ci, zz_cr, zz_cj, zz_cf, zz_cd]) (by simp [lg_sl, zz_rfc, zz_ci, zz_cr, zz_cj, zz_cf, zz_cd]) (fun _ X => A_X11_reads X a0 h)
-- X1_failed RenamedWords.failed(LRenamedWords$Unreadable;)I
noncomputable def f_X1_failed (a0 : Nat) (a1 : Option Nat) (h : HP) : Option ((Int) × HP) :=
  (rdI h a1 [9] 7).bind fun v1 =>
  (wrI h (some a0) [0] 6 v1).bind fun h2 =>
  (rdI h2 a1 [9] 6).bind fun v3 =>
  some (((-10) - v3), h2)
theorem A_X1_failed {M : hp_M} {G : va_G} {h0 : HP} (X : hp_X M G h0 "RenamedWords" "failed" cX1_failed 2 (some .int) [] 0 0) (a0 : Nat) (a1 : Option Nat) (h : HP) : vv M G h0 2 (hp_End M G h0) jI h 0 [(0, LR (some a0)), (1, LR a1)] [] (f_X1_failed a0 a1 h) := by
  unfold f_X1_failed
  refine vv_aload_n (pc := 0) X (kf := 0) (i := 0) rfl 0 rfl dX1_failed_0 ?_
  refine vv_aload_n (pc := 1) X (kf := 1) (i := 1) rfl 1 rfl dX1_failed_1 ?_
  refine vv_getI (pc := 2) X (fun _ z => by cases List.mem_singleton.mp z; exact fl_X1_138_9) dX1_failed_2 (fun v1 => ?_)
  refine vv_putI (pc := 5) (fin := false) X (fun _ z => by cases List.mem_singleton.mp z; exact fl_X1_63_0) (fun z => nomatch z) (fun z => nomatch z) dX1_failed_5 (fun h2 => ?_)
  refine vv_bipush (pc := 8) X (by decide) dX1_failed_8 ?_
  refine vv_aload_n (pc := 10) X (kf := 1) (i := 1) rfl 1 rfl dX1_failed_10 ?_
  refine vv_getI (pc := 11) X (fun _ z => by cases List.mem_singleton.mp z; exact fl_X1_143_9) dX1_failed_11 (fun v3 => ?_)
  refine vv_isub (pc := 14) X dX1_failed_14 ?_
  exact vv_iretI X rfl rfl dX1_failed_15
theorem m_X1_failed {l : Launch} (hl : l.stackTraces = false) {G : va_G} (a0 : Nat) (a1 : Option Nat) (h : HP) : ∀ r hf, f_X1_failed a0 a1 h = some (r, hf) → Ct l yX1_failed (ws_ yX1_failed cX1_failed 2 (some .int)) 0 0 G h [.ref a0, va_rf a1] (jI r) hf :=
  zz_ofW hl (by decide +kernel) (lv := [(0, LR (some a0)), (1, LR a1)]) (by simp [lv_args, lvL, lvV, zz_rfc, zz_rfs, zz_ci, zz_cr, zz_cj, zz_cf, zz_cd]) (by simp [lg_sl, zz_rfc, zz_ci, zz_cr, zz_cj, zz_cf, zz_cd]) (fun _ X => A_X1_failed X a0 a1 h)
-- J21_clear java/util/LinkedList.clear()V
noncomputable def c_J21_clear_5 (r5 : Option Nat → Option Nat → HP → Option ((Unit) × HP)) (x0 : Option Nat) (x1 : Option Nat) (h : HP) : Option ((Unit) × HP) :=
  rNU x1
    ((wrR h x0 [28] 3 none).bind fun h2 =>
    (wrR h2 x0 [28] 2 none).bind fun h3 =>
    (wrI h3 x0 [28] 1 0).bind fun h4 =>
    (rdI h4 x0 [24, 28] 0).bind fun v5 =>
    (wrI h4 x0 [24, 28] 0 (v5 + 1)).bind fun h6 =>
    some ((), h6))
    ((rdR h x1 [31] 1).bind fun v7 =>
    (wrR h x1 [31] 0 none).bind fun h8 =>
    (wrR h8 x1 [31] 1 none).bind fun h9 =>
    (wrR h9 x1 [31] 2 none).bind fun h10 =>
    r5 x0 v7 h10)
noncomputable def b_J21_clear_5 : Option Nat → Option Nat → HP → Option ((Unit) × HP) := fx (fun _ _ _ => none) (c_J21_clear_5) FU
theorem C_J21_clear_5 {M : hp_M} {G : va_G} {h0 : HP} (X : hp_X M G h0 "java/util/LinkedList" "clear" cJ21_clear 3 none [] 0 0) (r5 : Option Nat → Option Nat → HP → Option ((Unit) × HP)) (hr5 : ∀ (y0 : Option Nat) (y1 : Option Nat) (h : HP), vv M G h0 3 (hp_End M G h0) jV h 5 [(0, LR y0), (1, LR y1)] [] (r5 y0 y1 h)) (x0 : Option Nat) (x1 : Option Nat) (h : HP) : vv M G h0 3 (hp_End M G h0) jV h 5 [(0, LR x0), (1, LR x1)] [] (c_J21_clear_5 r5 x0 x1 h) := by
  unfold c_J21_clear_5
  refine vv_aload_n (pc := 5) X (kf := 1) (i := 1) rfl 1 rfl dJ21_clear_5 ?_
  refine vv_ifnull (pc := 6) (tgt := 34) X dJ21_clear_6 rfl ?_ ?_
  · refine vv_aload_n (pc := 34) X (kf := 0) (i := 0) rfl 0 rfl dJ21_clear_34 ?_
    refine vv_aload_n (pc := 35) X (kf := 0) (i := 0) rfl 0 rfl dJ21_clear_35 ?_
    refine vv_null (pc := 36) X dJ21_clear_36 ?_
    refine vv_dup_x1 (pc := 37) X rfl rfl dJ21_clear_37 ?_
    refine vv_putR (pc := 38) (ty9 := (.object "java/util/LinkedList$Node")) (fin := false) X (fun _ z => by cases List.mem_singleton.mp z; exact fl_J21_27_28) (fun z => nomatch z) (fun z => nomatch z) (by decide +kernel) rfl dJ21_clear_38 (fun h2 => ?_)
    refine vv_putR (pc := 41) (ty9 := (.object "java/util/LinkedList$Node")) (fin := false) X (fun _ z => by cases List.mem_singleton.mp z; exact fl_J21_18_28) (fun z => nomatch z) (fun z => nomatch z) (by decide +kernel) rfl dJ21_clear_41 (fun h3 => ?_)
    refine vv_aload_n (pc := 44) X (kf := 0) (i := 0) rfl 0 rfl dJ21_clear_44 ?_
    refine vv_iconst (pc := 45) X dJ21_clear_45 ?_
    refine vv_putI (pc := 46) (fin := false) X (fun _ z => by cases List.mem_singleton.mp z; exact fl_J21_7_28) (fun z => nomatch z) (fun z => nomatch z) dJ21_clear_46 (fun h4 => ?_)
    refine vv_aload_n (pc := 49) X (kf := 0) (i := 0) rfl 0 rfl dJ21_clear_49 ?_
    refine vv_dup (pc := 50) X rfl dJ21_clear_50 ?_
    refine vv_getI (pc := 51) X (fun _ z => by rcases List.mem_cons.mp z with rfl | z; exact fl_J21_33_24; cases List.mem_singleton.mp z; exact fl_J21_33_28) dJ21_clear_51 (fun v5 => ?_)
    refine vv_iconst (pc := 54) X dJ21_clear_54 ?_
    refine vv_iadd (pc := 55) X dJ21_clear_55 ?_
    refine vv_putI (pc := 56) (fin := false) X (fun _ z => by rcases List.mem_cons.mp z with rfl | z; exact fl_J21_33_24; cases List.mem_singleton.mp z; exact fl_J21_33_28) (fun z => nomatch z) (fun z => nomatch z) dJ21_clear_56 (fun h6 => ?_)
    exact vv_vreturn X rfl rfl dJ21_clear_59
  · refine vv_aload_n (pc := 9) X (kf := 1) (i := 1) rfl 1 rfl dJ21_clear_9 ?_
    refine vv_getR (pc := 10) X (fun _ z => by cases List.mem_singleton.mp z; exact fl_J21_36_31) dJ21_clear_10 (fun v7 => ?_)
    refine vv_astore_n (pc := 13) (lv' := [(2, LR v7), (0, LR x0), (1, LR x1)]) X (kf := 2) (i := 2) rfl (by decide) rfl dJ21_clear_13 ?_
    refine vv_aload_n (pc := 14) X (kf := 1) (i := 1) rfl 2 rfl dJ21_clear_14 ?_
    refine vv_null (pc := 15) X dJ21_clear_15 ?_
    refine vv_putR (pc := 16) (ty9 := (.object "java/lang/Object")) (fin := false) X (fun _ z => by cases List.mem_singleton.mp z; exact fl_J21_39_31) (fun z => nomatch z) (fun z => nomatch z) (by decide +kernel) rfl dJ21_clear_16 (fun h8 => ?_)
    refine vv_aload_n (pc := 19) X (kf := 1) (i := 1) rfl 2 rfl dJ21_clear_19 ?_
    refine vv_null (pc := 20) X dJ21_clear_20 ?_
    refine vv_putR (pc := 21) (ty9 := (.object "java/util/LinkedList$Node")) (fin := false) X (fun _ z => by cases List.mem_singleton.mp z; exact fl_J21_36_31) (fun z => nomatch z) (fun z => nomatch z) (by decide +kernel) rfl dJ21_clear_21 (fun h9 => ?_)
    refine vv_aload_n (pc := 24) X (kf := 1) (i := 1) rfl 2 rfl dJ21_clear_24 ?_
    refine vv_null (pc := 25) X dJ21_clear_25 ?_
    refine vv_putR (pc := 26) (ty9 := (.object "java/util/LinkedList$Node")) (fin := false) X (fun _ z => by cases List.mem_singleton.mp z; exact fl_J21_30_31) (fun z => nomatch z) (fun z => nomatch z) (by decide +kernel) rfl dJ21_clear_26 (fun h10 => ?_)
    refine vv_aload_n (pc := 29) X (kf := 2) (i := 2) rfl 0 rfl dJ21_clear_29 ?_
    refine vv_astore_n (pc := 30) (lv' := [(1, LR v7), (2, LR v7), (0, LR x0)]) X (kf := 1) (i := 1) rfl (by decide) rfl dJ21_clear_30 ?_
    refine vv_goto (pc := 31) (tgt := 5) X dJ21_clear_31 rfl ?_
    exact vv_sub [2, 0] (by rfl) (hr5 _ _ _)
theorem B_J21_clear_5 {M : hp_M} {G : va_G} {h0 : HP} (X : hp_X M G h0 "java/util/LinkedList" "clear" cJ21_clear 3 none [] 0 0) : ∀ (x0 : Option Nat) (x1 : Option Nat) (h : HP), vv M G h0 3 (hp_End M G h0) jV h 5 [(0, LR x0), (1, LR x1)] [] (b_J21_clear_5 x0 x1 h) := by
  unfold b_J21_clear_5
  generalize FU = n
  induction n with
  | zero => intro x0 x1 h; exact vv_none
  | succ n ih => exact C_J21_clear_5 X _ ih
noncomputable def f_J21_clear (a0 : Nat) (h : HP) : Option ((Unit) × HP) :=
  (rdR h (some a0) [28] 2).bind fun v1 =>
  b_J21_clear_5 (some a0) v1 h
theorem A_J21_clear {M : hp_M} {G : va_G} {h0 : HP} (X : hp_X M G h0 "java/util/LinkedList" "clear" cJ21_clear 3 none [] 0 0) (a0 : Nat) (h : HP) : vv M G h0 3 (hp_End M G h0) jV h 0 [(0, LR (some a0))] [] (f_J21_clear a0 h) := by
  unfold f_J21_clear
  refine vv_aload_n (pc := 0) X (kf := 0) (i := 0) rfl 0 rfl dJ21_clear_0 ?_
  refine vv_getR (pc := 1) X (fun _ z => by cases List.mem_singleton.mp z; exact fl_J21_18_28) dJ21_clear_1 (fun v1 => ?_)
  refine vv_astore_n (pc := 4) (lv' := [(1, LR v1), (0, LR (some a0))]) X (kf := 1) (i := 1) rfl (by decide) rfl dJ21_clear_4 ?_
  exact vv_sub [1, 0] (by rfl) (B_J21_clear_5 X _ _ _)
theorem m_J21_clear {l : Launch} (hl : l.stackTraces = false) {G : va_G} (a0 : Nat) (h : HP) : ∀ r hf, f_J21_clear a0 h = some (r, hf) → Ct l yJ21_clear (ws_ yJ21_clear cJ21_clear 3 none) 0 0 G h [.ref a0] (jV r) hf :=
  zz_ofW hl (by decide +kernel) (lv := [(0, LR (some a0))]) (by simp [lv_args, lvL, lvV, zz_rfc, zz_rfs, zz_ci, zz_cr, zz_cj, zz_cf, zz_cd]) (by simp [lg_sl, zz_rfc, zz_ci, zz_cr, zz_cj, zz_cf, zz_cd]) (fun _ X => A_J21_clear X a0 h)
