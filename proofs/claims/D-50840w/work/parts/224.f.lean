/-! STAGE 1c: functions and contracts (printed by gen/mkfuncs.py). -/
set_option maxRecDepth 100000
set_option linter.unusedVariables false
-- X9_readsOrder RenamedWordsModel.readsOrder()V
noncomputable def b_X9_readsOrder_45 (h : HP) : Option ((Unit) × HP) :=
  some ((), h)
theorem B_X9_readsOrder_45 {M : hp_M} {G : va_G} {h0 : HP} (X : hp_X M G h0 "RenamedWordsModel" "readsOrder" cX9_readsOrder 2 none [] 6 175) (h : HP) : vv M G h0 2 (hp_End M G h0) jV h 45 [] [] (b_X9_readsOrder_45 h) := by
  unfold b_X9_readsOrder_45
  exact vv_vreturn X rfl rfl dX9_readsOrder_45
noncomputable def b_X9_readsOrder_135 (x0 : Option Nat) (s0 : Int) (s1 : Option Nat) (h : HP) : Option ((Unit) × HP) :=
  (rcv h s1 [7]).bind fun b40 =>
  hb (f_X9_faulty b40 s0 5 h) fun v38 h39 =>
  iEQ v38 0
    ((rcv h39 x0 [7]).bind fun b44 =>
    hb (f_X9_takesSign b44 40 h39) fun _ h43 =>
    (rdR h43 x0 [7] 27).bind fun v46 =>
    (rdI h43 x0 [7] 31).bind fun v47 =>
    hb (f_J14_min v47 1 h43) fun v48 h49 =>
    (rdI h49 x0 [7] 29).bind fun v50 =>
    (astI h49 .int v46 v48 v50).bind fun h51 =>
    (rdI h51 x0 [7] 31).bind fun v52 =>
    (wrI h51 x0 [7] 31 (v52 + 1)).bind fun h53 =>
    (rdI h53 x0 [7] 29).bind fun v54 =>
    (wrI h53 x0 [7] 29 (v54 + 1)).bind fun h55 =>
    some ((), h55))
    (some ((), h39))
theorem B_X9_readsOrder_135 {M : hp_M} {G : va_G} {h0 : HP} (X : hp_X M G h0 "RenamedWordsModel" "readsOrder" cX9_readsOrder 2 none [] 6 175) (x0 : Option Nat) (s0 : Int) (s1 : Option Nat) (h : HP) : vv M G h0 2 (hp_End M G h0) jV h 135 [(0, LR x0)] [LI s0, LR s1] (b_X9_readsOrder_135 x0 s0 s1 h) := by
  unfold b_X9_readsOrder_135
  refine vv_iconst (pc := 135) X dX9_readsOrder_135 ?_
  refine vv_rcv (fun b40 t9 c9 fs9 e41 g9 k9 => ?_)
  cases List.mem_singleton.mp k9
  refine vv_callI (pc := 136) (rest := []) (by rw [e41]; rfl) (fun r8 k8 e8 => zz_callV X (m_X9_faulty (hlM X) _ _ _ _ _ _ e8) g9 rfl rfl q3612 q3614 qs59 q164 q3615 nh_X9 rfl (by decide) (by decide) (Nat.le_of_ble_eq_true rfl) dX9_readsOrder_136) (fun v38 h39 => ?_)
  refine vv_if_eq (pc := 139) (tgt := 143) X dX9_readsOrder_139 rfl ?_ ?_
  · refine vv_aload_n (pc := 143) X (kf := 0) (i := 0) rfl 0 rfl dX9_readsOrder_143 ?_
    refine vv_bipush (pc := 144) X (by decide) dX9_readsOrder_144 ?_
    refine vv_rcv (fun b44 t9 c9 fs9 e45 g9 k9 => ?_)
    cases List.mem_singleton.mp k9
    refine vv_callV (pc := 146) (rest := []) (by rw [e45]; rfl) (fun r8 k8 e8 => zz_callV X (m_X9_takesSign (hlM X) _ _ _ _ _ e8) g9 rfl rfl q3710 q3712 qs79 q164 q3713 nh_X9 rfl (by decide) (by decide) (Nat.le_of_ble_eq_true rfl) dX9_readsOrder_146) (fun v42 h43 => ?_)
    refine vv_aload_n (pc := 149) X (kf := 0) (i := 0) rfl 0 rfl dX9_readsOrder_149 ?_
    refine vv_getR (pc := 150) X (fun _ z => by cases List.mem_singleton.mp z; exact fl_X9_60_7) dX9_readsOrder_150 (fun v46 => ?_)
    refine vv_aload_n (pc := 153) X (kf := 0) (i := 0) rfl 0 rfl dX9_readsOrder_153 ?_
    refine vv_getI (pc := 154) X (fun _ z => by cases List.mem_singleton.mp z; exact fl_X9_310_7) dX9_readsOrder_154 (fun v47 => ?_)
    refine vv_iconst (pc := 157) X dX9_readsOrder_157 ?_
    refine vv_callI (pc := 158) (rest := [LR v46]) (by rfl) (fun r8 k8 e8 => zz_callS X (m_J14_min (hlM X) _ _ _ _ _ e8) q3714 q392 q149 q393 nh_J14 rfl (by decide) (by decide) (Nat.le_of_ble_eq_true rfl) dX9_readsOrder_158) (fun v48 h49 => ?_)
    refine vv_aload_n (pc := 161) X (kf := 0) (i := 0) rfl 0 rfl dX9_readsOrder_161 ?_
    refine vv_getI (pc := 162) X (fun _ z => by cases List.mem_singleton.mp z; exact fl_X9_286_7) dX9_readsOrder_162 (fun v50 => ?_)
    refine vv_iastore (pc := 165) X dX9_readsOrder_165 (fun h51 => ?_)
    refine vv_aload_n (pc := 166) X (kf := 0) (i := 0) rfl 0 rfl dX9_readsOrder_166 ?_
    refine vv_dup (pc := 167) X rfl dX9_readsOrder_167 ?_
    refine vv_getI (pc := 168) X (fun _ z => by cases List.mem_singleton.mp z; exact fl_X9_310_7) dX9_readsOrder_168 (fun v52 => ?_)
    refine vv_iconst (pc := 171) X dX9_readsOrder_171 ?_
    refine vv_iadd (pc := 172) X dX9_readsOrder_172 ?_
    refine vv_putI (pc := 173) (fin := false) X (fun _ z => by cases List.mem_singleton.mp z; exact fl_X9_310_7) (fun z => nomatch z) (fun z => nomatch z) dX9_readsOrder_173 (fun h53 => ?_)
    refine vv_aload_n (pc := 176) X (kf := 0) (i := 0) rfl 0 rfl dX9_readsOrder_176 ?_
    refine vv_dup (pc := 177) X rfl dX9_readsOrder_177 ?_
    refine vv_getI (pc := 178) X (fun _ z => by cases List.mem_singleton.mp z; exact fl_X9_286_7) dX9_readsOrder_178 (fun v54 => ?_)
    refine vv_iconst (pc := 181) X dX9_readsOrder_181 ?_
    refine vv_iadd (pc := 182) X dX9_readsOrder_182 ?_
    refine vv_putI (pc := 183) (fin := false) X (fun _ z => by cases List.mem_singleton.mp z; exact fl_X9_286_7) (fun z => nomatch z) (fun z => nomatch z) dX9_readsOrder_183 (fun h55 => ?_)
    exact vv_vreturn X rfl rfl dX9_readsOrder_186
  · exact vv_vreturn X rfl rfl dX9_readsOrder_142
noncomputable def b_X9_readsOrder_134 (x0 : Option Nat) (s0 : Option Nat) (h : HP) : Option ((Unit) × HP) :=
  b_X9_readsOrder_135 x0 0 s0 h
theorem B_X9_readsOrder_134 {M : hp_M} {G : va_G} {h0 : HP} (X : hp_X M G h0 "RenamedWordsModel" "readsOrder" cX9_readsOrder 2 none [] 6 175) (x0 : Option Nat) (s0 : Option Nat) (h : HP) : vv M G h0 2 (hp_End M G h0) jV h 134 [(0, LR x0)] [LR s0] (b_X9_readsOrder_134 x0 s0 h) := by
  unfold b_X9_readsOrder_134
  refine vv_iconst (pc := 134) X dX9_readsOrder_134 ?_
  exact B_X9_readsOrder_135 X _ _ _ _
noncomputable def b_X9_readsOrder_38 (x0 : Option Nat) (x1 : Int) (s0 : Int) (s1 : Option Nat) (h : HP) : Option ((Unit) × HP) :=
  (rcv h s1 [7]).bind fun b12 =>
  hb (f_X9_faulty b12 s0 5 h) fun v10 h11 =>
  iEQ v10 0
    ((rdI h11 x0 [7] 30).bind fun v14 =>
    (wrI h11 x0 [7] 30 (v14 + 1)).bind fun h15 =>
    (rcv h15 x0 [7]).bind fun b18 =>
    hb (f_X9_advance b18 h15) fun _ h17 =>
    (rdR h17 x0 [7] 22).bind fun v20 =>
    (rdI h17 x0 [7] 29).bind fun v21 =>
    (astI h17 .int v20 v21 x1).bind fun h22 =>
    (rdR h22 x0 [7] 23).bind fun v23 =>
    (rdI h22 x0 [7] 29).bind fun v24 =>
    (rcv h22 x0 [7]).bind fun b27 =>
    hb (f_X9_firstHere b27 x1 h22) fun v25 h26 =>
    (astI h26 .int v23 v24 v25).bind fun h29 =>
    (rcv h29 x0 [7]).bind fun b32 =>
    hb (f_X9_restHere b32 x1 h29) fun _ h31 =>
    iEQ x1 8
      ((rcv h31 x0 [7]).bind fun b36 =>
      hb (f_X9_isSign b36 40 h31) fun v34 h35 =>
      iEQ v34 0
        (b_X9_readsOrder_134 x0 x0 h35)
        ((rdI h35 x0 [7] 31).bind fun v56 =>
        iEQ v56 2
          (b_X9_readsOrder_135 x0 1 x0 h35)
          (b_X9_readsOrder_134 x0 x0 h35)))
      ((rdI h31 x0 [7] 29).bind fun v57 =>
      (wrI h31 x0 [7] 29 (v57 + 1)).bind fun h58 =>
      (rcv h58 x0 [7]).bind fun b61 =>
      hb (f_X9_takesSign b61 59 h58) fun _ h60 =>
      some ((), h60)))
    (b_X9_readsOrder_45 h11)
theorem B_X9_readsOrder_38 {M : hp_M} {G : va_G} {h0 : HP} (X : hp_X M G h0 "RenamedWordsModel" "readsOrder" cX9_readsOrder 2 none [] 6 175) (x0 : Option Nat) (x1 : Int) (s0 : Int) (s1 : Option Nat) (h : HP) : vv M G h0 2 (hp_End M G h0) jV h 38 [(0, LR x0), (1, LI x1)] [LI s0, LR s1] (b_X9_readsOrder_38 x0 x1 s0 s1 h) := by
  unfold b_X9_readsOrder_38
  refine vv_iconst (pc := 38) X dX9_readsOrder_38 ?_
  refine vv_rcv (fun b12 t9 c9 fs9 e13 g9 k9 => ?_)
  cases List.mem_singleton.mp k9
  refine vv_callI (pc := 39) (rest := []) (by rw [e13]; rfl) (fun r8 k8 e8 => zz_callV X (m_X9_faulty (hlM X) _ _ _ _ _ _ e8) g9 rfl rfl q3612 q3614 qs59 q164 q3615 nh_X9 rfl (by decide) (by decide) (Nat.le_of_ble_eq_true rfl) dX9_readsOrder_39) (fun v10 h11 => ?_)
  refine vv_if_eq (pc := 42) (tgt := 46) X dX9_readsOrder_42 rfl ?_ ?_
  · refine vv_aload_n (pc := 46) X (kf := 0) (i := 0) rfl 0 rfl dX9_readsOrder_46 ?_
    refine vv_dup (pc := 47) X rfl dX9_readsOrder_47 ?_
    refine vv_getI (pc := 48) X (fun _ z => by cases List.mem_singleton.mp z; exact fl_X9_298_7) dX9_readsOrder_48 (fun v14 => ?_)
    refine vv_iconst (pc := 51) X dX9_readsOrder_51 ?_
    refine vv_iadd (pc := 52) X dX9_readsOrder_52 ?_
    refine vv_putI (pc := 53) (fin := false) X (fun _ z => by cases List.mem_singleton.mp z; exact fl_X9_298_7) (fun z => nomatch z) (fun z => nomatch z) dX9_readsOrder_53 (fun h15 => ?_)
    refine vv_aload_n (pc := 56) X (kf := 0) (i := 0) rfl 0 rfl dX9_readsOrder_56 ?_
    refine vv_rcv (fun b18 t9 c9 fs9 e19 g9 k9 => ?_)
    cases List.mem_singleton.mp k9
    refine vv_callV (pc := 57) (rest := []) (by rw [e19]; rfl) (fun r8 k8 e8 => zz_callV X (m_X9_advance (hlM X) _ _ _ _ e8) g9 rfl rfl q3581 q3583 qs53 q164 q3584 nh_X9 rfl (by decide) (by decide) (Nat.le_of_ble_eq_true rfl) dX9_readsOrder_57) (fun v16 h17 => ?_)
    refine vv_aload_n (pc := 60) X (kf := 0) (i := 0) rfl 0 rfl dX9_readsOrder_60 ?_
    refine vv_getR (pc := 61) X (fun _ z => by cases List.mem_singleton.mp z; exact fl_X9_45_7) dX9_readsOrder_61 (fun v20 => ?_)
    refine vv_aload_n (pc := 64) X (kf := 0) (i := 0) rfl 0 rfl dX9_readsOrder_64 ?_
    refine vv_getI (pc := 65) X (fun _ z => by cases List.mem_singleton.mp z; exact fl_X9_286_7) dX9_readsOrder_65 (fun v21 => ?_)
    refine vv_iload_n (pc := 68) X (kf := 1) (i := 1) rfl 1 rfl dX9_readsOrder_68 ?_
    refine vv_iastore (pc := 69) X dX9_readsOrder_69 (fun h22 => ?_)
    refine vv_aload_n (pc := 70) X (kf := 0) (i := 0) rfl 0 rfl dX9_readsOrder_70 ?_
    refine vv_getR (pc := 71) X (fun _ z => by cases List.mem_singleton.mp z; exact fl_X9_48_7) dX9_readsOrder_71 (fun v23 => ?_)
    refine vv_aload_n (pc := 74) X (kf := 0) (i := 0) rfl 0 rfl dX9_readsOrder_74 ?_
    refine vv_getI (pc := 75) X (fun _ z => by cases List.mem_singleton.mp z; exact fl_X9_286_7) dX9_readsOrder_75 (fun v24 => ?_)
    refine vv_aload_n (pc := 78) X (kf := 0) (i := 0) rfl 0 rfl dX9_readsOrder_78 ?_
    refine vv_iload_n (pc := 79) X (kf := 1) (i := 1) rfl 1 rfl dX9_readsOrder_79 ?_
    refine vv_rcv (fun b27 t9 c9 fs9 e28 g9 k9 => ?_)
    cases List.mem_singleton.mp k9
    refine vv_callI (pc := 80) (rest := [LI v24, LR v23]) (by rw [e28]; rfl) (fun r8 k8 e8 => zz_callV X (m_X9_firstHere (hlM X) _ _ _ _ _ e8) g9 rfl rfl q3690 q3692 qs74 q164 q3693 nh_X9 rfl (by decide) (by decide) (Nat.le_of_ble_eq_true rfl) dX9_readsOrder_80) (fun v25 h26 => ?_)
    refine vv_iastore (pc := 83) X dX9_readsOrder_83 (fun h29 => ?_)
    refine vv_aload_n (pc := 84) X (kf := 0) (i := 0) rfl 0 rfl dX9_readsOrder_84 ?_
    refine vv_iload_n (pc := 85) X (kf := 1) (i := 1) rfl 1 rfl dX9_readsOrder_85 ?_
    refine vv_rcv (fun b32 t9 c9 fs9 e33 g9 k9 => ?_)
    cases List.mem_singleton.mp k9
    refine vv_callV (pc := 86) (rest := []) (by rw [e33]; rfl) (fun r8 k8 e8 => zz_callV X (m_X9_restHere (hlM X) _ _ _ _ _ e8) g9 rfl rfl q3698 q3700 qs76 q164 q3701 nh_X9 rfl (by decide) (by decide) (Nat.le_of_ble_eq_true rfl) dX9_readsOrder_86) (fun v30 h31 => ?_)
    refine vv_iload_n (pc := 89) X (kf := 1) (i := 1) rfl 1 rfl dX9_readsOrder_89 ?_
    refine vv_bipush (pc := 90) X (by decide) dX9_readsOrder_90 ?_
    refine vv_icmp_eq (pc := 92) (tgt := 112) X dX9_readsOrder_92 rfl ?_ ?_
    · refine vv_aload_n (pc := 112) X (kf := 0) (i := 0) rfl 0 rfl dX9_readsOrder_112 ?_
      refine vv_aload_n (pc := 113) X (kf := 0) (i := 0) rfl 0 rfl dX9_readsOrder_113 ?_
      refine vv_bipush (pc := 114) X (by decide) dX9_readsOrder_114 ?_
      refine vv_rcv (fun b36 t9 c9 fs9 e37 g9 k9 => ?_)
      cases List.mem_singleton.mp k9
      refine vv_callI (pc := 116) (rest := [LR x0]) (by rw [e37]; rfl) (fun r8 k8 e8 => zz_callV X (m_X9_isSign (hlM X) _ _ _ _ _ e8) g9 rfl rfl q3620 q3622 qs61 q164 q3623 nh_X9 rfl (by decide) (by decide) (Nat.le_of_ble_eq_true rfl) dX9_readsOrder_116) (fun v34 h35 => ?_)
      refine vv_if_eq (pc := 119) (tgt := 134) X dX9_readsOrder_119 rfl ?_ ?_
      · exact vv_sub [0] (by rfl) (B_X9_readsOrder_134 X _ _ _)
      · refine vv_aload_n (pc := 122) X (kf := 0) (i := 0) rfl 0 rfl dX9_readsOrder_122 ?_
        refine vv_getI (pc := 123) X (fun _ z => by cases List.mem_singleton.mp z; exact fl_X9_310_7) dX9_readsOrder_123 (fun v56 => ?_)
        refine vv_iconst (pc := 126) X dX9_readsOrder_126 ?_
        refine vv_icmp_ne (pc := 127) (tgt := 134) X dX9_readsOrder_127 rfl ?_ ?_
        · exact vv_sub [0] (by rfl) (B_X9_readsOrder_134 X _ _ _)
        · refine vv_iconst (pc := 130) X dX9_readsOrder_130 ?_
          refine vv_goto (pc := 131) (tgt := 135) X dX9_readsOrder_131 rfl ?_
          exact vv_sub [0] (by rfl) (B_X9_readsOrder_135 X _ _ _ _)
    · refine vv_aload_n (pc := 95) X (kf := 0) (i := 0) rfl 0 rfl dX9_readsOrder_95 ?_
      refine vv_dup (pc := 96) X rfl dX9_readsOrder_96 ?_
      refine vv_getI (pc := 97) X (fun _ z => by cases List.mem_singleton.mp z; exact fl_X9_286_7) dX9_readsOrder_97 (fun v57 => ?_)
      refine vv_iconst (pc := 100) X dX9_readsOrder_100 ?_
      refine vv_iadd (pc := 101) X dX9_readsOrder_101 ?_
      refine vv_putI (pc := 102) (fin := false) X (fun _ z => by cases List.mem_singleton.mp z; exact fl_X9_286_7) (fun z => nomatch z) (fun z => nomatch z) dX9_readsOrder_102 (fun h58 => ?_)
      refine vv_aload_n (pc := 105) X (kf := 0) (i := 0) rfl 0 rfl dX9_readsOrder_105 ?_
      refine vv_bipush (pc := 106) X (by decide) dX9_readsOrder_106 ?_
      refine vv_rcv (fun b61 t9 c9 fs9 e62 g9 k9 => ?_)
      cases List.mem_singleton.mp k9
      refine vv_callV (pc := 108) (rest := []) (by rw [e62]; rfl) (fun r8 k8 e8 => zz_callV X (m_X9_takesSign (hlM X) _ _ _ _ _ e8) g9 rfl rfl q3710 q3712 qs79 q164 q3713 nh_X9 rfl (by decide) (by decide) (Nat.le_of_ble_eq_true rfl) dX9_readsOrder_108) (fun v59 h60 => ?_)
      exact vv_vreturn X rfl rfl dX9_readsOrder_111
  · exact vv_sub [] (by rfl) (B_X9_readsOrder_45 X _)
noncomputable def b_X9_readsOrder_16 (x0 : Option Nat) (x1 : Int) (s0 : Int) (s1 : Option Nat) (h : HP) : Option ((Unit) × HP) :=
  (rcv h s1 [7]).bind fun b7 =>
  hb (f_X9_faulty b7 s0 1 h) fun v5 h6 =>
  iEQ v5 0
    ((rdI h6 x0 [7] 30).bind fun v9 =>
    iEQ v9 30
      (b_X9_readsOrder_38 x0 x1 1 x0 h6)
      (b_X9_readsOrder_38 x0 x1 0 x0 h6))
    (b_X9_readsOrder_45 h6)
theorem B_X9_readsOrder_16 {M : hp_M} {G : va_G} {h0 : HP} (X : hp_X M G h0 "RenamedWordsModel" "readsOrder" cX9_readsOrder 2 none [] 6 175) (x0 : Option Nat) (x1 : Int) (s0 : Int) (s1 : Option Nat) (h : HP) : vv M G h0 2 (hp_End M G h0) jV h 16 [(0, LR x0), (1, LI x1)] [LI s0, LR s1] (b_X9_readsOrder_16 x0 x1 s0 s1 h) := by
  unfold b_X9_readsOrder_16
  refine vv_iconst (pc := 16) X dX9_readsOrder_16 ?_
  refine vv_rcv (fun b7 t9 c9 fs9 e8 g9 k9 => ?_)
  cases List.mem_singleton.mp k9
  refine vv_callI (pc := 17) (rest := []) (by rw [e8]; rfl) (fun r8 k8 e8 => zz_callV X (m_X9_faulty (hlM X) _ _ _ _ _ _ e8) g9 rfl rfl q3612 q3614 qs59 q164 q3615 nh_X9 rfl (by decide) (by decide) (Nat.le_of_ble_eq_true rfl) dX9_readsOrder_17) (fun v5 h6 => ?_)
  refine vv_if_ne (pc := 20) (tgt := 45) X dX9_readsOrder_20 rfl ?_ ?_
  · exact vv_sub [] (by rfl) (B_X9_readsOrder_45 X _)
  · refine vv_aload_n (pc := 23) X (kf := 0) (i := 0) rfl 0 rfl dX9_readsOrder_23 ?_
    refine vv_aload_n (pc := 24) X (kf := 0) (i := 0) rfl 0 rfl dX9_readsOrder_24 ?_
    refine vv_getI (pc := 25) X (fun _ z => by cases List.mem_singleton.mp z; exact fl_X9_298_7) dX9_readsOrder_25 (fun v9 => ?_)
    refine vv_bipush (pc := 28) X (by decide) dX9_readsOrder_28 ?_
    refine vv_icmp_ne (pc := 30) (tgt := 37) X dX9_readsOrder_30 rfl ?_ ?_
    · refine vv_iconst (pc := 37) X dX9_readsOrder_37 ?_
      exact B_X9_readsOrder_38 X _ _ _ _ _
    · refine vv_iconst (pc := 33) X dX9_readsOrder_33 ?_
      refine vv_goto (pc := 34) (tgt := 38) X dX9_readsOrder_34 rfl ?_
      exact B_X9_readsOrder_38 X _ _ _ _ _
noncomputable def f_X9_readsOrder (a0 : Nat) (h : HP) : Option ((Unit) × HP) :=
  (rcv h (some a0) [7]).bind fun b3 =>
  hb (f_X9_orderHere b3 h) fun v1 h2 =>
  iEQ v1 (-1)
    (b_X9_readsOrder_16 (some a0) v1 1 (some a0) h2)
    (b_X9_readsOrder_16 (some a0) v1 0 (some a0) h2)
theorem A_X9_readsOrder {M : hp_M} {G : va_G} {h0 : HP} (X : hp_X M G h0 "RenamedWordsModel" "readsOrder" cX9_readsOrder 2 none [] 6 175) (a0 : Nat) (h : HP) : vv M G h0 2 (hp_End M G h0) jV h 0 [(0, LR (some a0))] [] (f_X9_readsOrder a0 h) := by
  unfold f_X9_readsOrder
  refine vv_aload_n (pc := 0) X (kf := 0) (i := 0) rfl 0 rfl dX9_readsOrder_0 ?_
  refine vv_rcv (fun b3 t9 c9 fs9 e4 g9 k9 => ?_)
  cases List.mem_singleton.mp k9
  refine vv_callI (pc := 1) (rest := []) (by rw [e4]; rfl) (fun r8 k8 e8 => zz_callV X (m_X9_orderHere (hlM X) _ _ _ _ e8) g9 rfl rfl q3678 q3680 qs73 q164 q3681 nh_X9 rfl (by decide) (by decide) (Nat.le_of_ble_eq_true rfl) dX9_readsOrder_1) (fun v1 h2 => ?_)
  refine vv_istore_n (pc := 4) (lv' := [(1, LI v1), (0, LR (some a0))]) X (kf := 1) (i := 1) rfl (by decide) rfl dX9_readsOrder_4 ?_
  refine vv_aload_n (pc := 5) X (kf := 0) (i := 0) rfl 1 rfl dX9_readsOrder_5 ?_
  refine vv_iload_n (pc := 6) X (kf := 1) (i := 1) rfl 0 rfl dX9_readsOrder_6 ?_
  refine vv_iconst (pc := 7) X dX9_readsOrder_7 ?_
  refine vv_icmp_ne (pc := 8) (tgt := 15) X dX9_readsOrder_8 rfl ?_ ?_
  · refine vv_iconst (pc := 15) X dX9_readsOrder_15 ?_
    exact vv_sub [1, 0] (by rfl) (B_X9_readsOrder_16 X _ _ _ _ _)
  · refine vv_iconst (pc := 11) X dX9_readsOrder_11 ?_
    refine vv_goto (pc := 12) (tgt := 16) X dX9_readsOrder_12 rfl ?_
    exact vv_sub [1, 0] (by rfl) (B_X9_readsOrder_16 X _ _ _ _ _)
theorem m_X9_readsOrder {l : Launch} (hl : l.stackTraces = false) {G : va_G} (a0 : Nat) (h : HP) : ∀ r hf, f_X9_readsOrder a0 h = some (r, hf) → Ct l yX9_readsOrder (ws_ yX9_readsOrder cX9_readsOrder 2 none) 6 175 G h [.ref a0] (jV r) hf :=
  zz_ofW hl (by decide +kernel) (lv := [(0, LR (some a0))]) (by simp [lv_args, lvL, lvV, zz_rfc, zz_rfs, zz_ci, zz_cr, zz_cj, zz_cf, zz_cd]) (by simp [lg_sl, zz_rfc, zz_ci, zz_cr, zz_cj, zz_cf, zz_cd]) (fun _ X => A_X9_readsOrder X a0 h)
-- X9_closes RenamedWordsModel.closes()V
noncomputable def b_X9_closes_78 (h : HP) : Option ((Unit) × HP) :=
  some ((), h)
theorem B_X9_closes_78 {M : hp_M} {G : va_G} {h0 : HP} (X : hp_X M G h0 "RenamedWordsModel" "closes" cX9_closes 1 none [] 4 117) (h : HP) : vv M G h0 1 (hp_End M G h0) jV h 78 [] [] (b_X9_closes_78 h) := by
  unfold b_X9_closes_78
  exact vv_vreturn X rfl rfl dX9_closes_78
noncomputable def c_X9_closes_0 (r0 : Option Nat → HP → Option ((Unit) × HP)) (x0 : Option Nat) (h : HP) : Option ((Unit) × HP) :=
  (rdI h x0 [7] 31).bind fun v1 =>
  iLE v1 0
    (b_X9_closes_78 h)
    ((rcv h x0 [7]).bind fun b4 =>
    hb (f_X9_isSign b4 41 h) fun v2 h3 =>
    iEQ v2 0
      (b_X9_closes_78 h3)
      ((rdI h3 x0 [7] 31).bind fun v6 =>
      (wrI h3 x0 [7] 31 (v6 - 1)).bind fun h7 =>
      (rdR h7 x0 [7] 26).bind fun v8 =>
      (rdR h7 x0 [7] 27).bind fun v9 =>
      (rdI h7 x0 [7] 31).bind fun v10 =>
      (aldI h7 .int v9 v10).bind fun v11 =>
      (rdI h7 x0 [7] 29).bind fun v12 =>
      (astI h7 .int v8 v11 v12).bind fun h13 =>
      (rdR h13 x0 [7] 22).bind fun v14 =>
      (rdI h13 x0 [7] 29).bind fun v15 =>
      (astI h13 .int v14 v15 9).bind fun h16 =>
      (rdI h16 x0 [7] 29).bind fun v17 =>
      (wrI h16 x0 [7] 29 (v17 + 1)).bind fun h18 =>
      (rcv h18 x0 [7]).bind fun b21 =>
      hb (f_X9_advance b21 h18) fun _ h20 =>
      (rcv h20 x0 [7]).bind fun b25 =>
      hb (f_X9_takesSign b25 59 h20) fun _ h24 =>
      r0 x0 h24))
noncomputable def b_X9_closes_0 : Option Nat → HP → Option ((Unit) × HP) := fx (fun _ _ => none) (c_X9_closes_0) FU
theorem C_X9_closes_0 {M : hp_M} {G : va_G} {h0 : HP} (X : hp_X M G h0 "RenamedWordsModel" "closes" cX9_closes 1 none [] 4 117) (r0 : Option Nat → HP → Option ((Unit) × HP)) (hr0 : ∀ (y0 : Option Nat) (h : HP), vv M G h0 1 (hp_End M G h0) jV h 0 [(0, LR y0)] [] (r0 y0 h)) (x0 : Option Nat) (h : HP) : vv M G h0 1 (hp_End M G h0) jV h 0 [(0, LR x0)] [] (c_X9_closes_0 r0 x0 h) := by
  unfold c_X9_closes_0
  refine vv_aload_n (pc := 0) X (kf := 0) (i := 0) rfl 0 rfl dX9_closes_0 ?_
  refine vv_getI (pc := 1) X (fun _ z => by cases List.mem_singleton.mp z; exact fl_X9_310_7) dX9_closes_1 (fun v1 => ?_)
  refine vv_if_le (pc := 4) (tgt := 78) X dX9_closes_4 rfl ?_ ?_
  · exact vv_sub [] (by rfl) (B_X9_closes_78 X _)
  · refine vv_aload_n (pc := 7) X (kf := 0) (i := 0) rfl 0 rfl dX9_closes_7 ?_
    refine vv_bipush (pc := 8) X (by decide) dX9_closes_8 ?_
    refine vv_rcv (fun b4 t9 c9 fs9 e5 g9 k9 => ?_)
    cases List.mem_singleton.mp k9
    refine vv_callI (pc := 10) (rest := []) (by rw [e5]; rfl) (fun r8 k8 e8 => zz_callV X (m_X9_isSign (hlM X) _ _ _ _ _ e8) g9 rfl rfl q3620 q3622 qs61 q164 q3623 nh_X9 rfl (by decide) (by decide) (Nat.le_of_ble_eq_true rfl) dX9_closes_10) (fun v2 h3 => ?_)
    refine vv_if_eq (pc := 13) (tgt := 78) X dX9_closes_13 rfl ?_ ?_
    · exact vv_sub [] (by rfl) (B_X9_closes_78 X _)
    · refine vv_aload_n (pc := 16) X (kf := 0) (i := 0) rfl 0 rfl dX9_closes_16 ?_
      refine vv_dup (pc := 17) X rfl dX9_closes_17 ?_
      refine vv_getI (pc := 18) X (fun _ z => by cases List.mem_singleton.mp z; exact fl_X9_310_7) dX9_closes_18 (fun v6 => ?_)
      refine vv_iconst (pc := 21) X dX9_closes_21 ?_
      refine vv_isub (pc := 22) X dX9_closes_22 ?_
      refine vv_putI (pc := 23) (fin := false) X (fun _ z => by cases List.mem_singleton.mp z; exact fl_X9_310_7) (fun z => nomatch z) (fun z => nomatch z) dX9_closes_23 (fun h7 => ?_)
      refine vv_aload_n (pc := 26) X (kf := 0) (i := 0) rfl 0 rfl dX9_closes_26 ?_
      refine vv_getR (pc := 27) X (fun _ z => by cases List.mem_singleton.mp z; exact fl_X9_57_7) dX9_closes_27 (fun v8 => ?_)
      refine vv_aload_n (pc := 30) X (kf := 0) (i := 0) rfl 0 rfl dX9_closes_30 ?_
      refine vv_getR (pc := 31) X (fun _ z => by cases List.mem_singleton.mp z; exact fl_X9_60_7) dX9_closes_31 (fun v9 => ?_)
      refine vv_aload_n (pc := 34) X (kf := 0) (i := 0) rfl 0 rfl dX9_closes_34 ?_
      refine vv_getI (pc := 35) X (fun _ z => by cases List.mem_singleton.mp z; exact fl_X9_310_7) dX9_closes_35 (fun v10 => ?_)
      refine vv_iaload (pc := 38) X dX9_closes_38 (fun v11 => ?_)
      refine vv_aload_n (pc := 39) X (kf := 0) (i := 0) rfl 0 rfl dX9_closes_39 ?_
      refine vv_getI (pc := 40) X (fun _ z => by cases List.mem_singleton.mp z; exact fl_X9_286_7) dX9_closes_40 (fun v12 => ?_)
      refine vv_iastore (pc := 43) X dX9_closes_43 (fun h13 => ?_)
      refine vv_aload_n (pc := 44) X (kf := 0) (i := 0) rfl 0 rfl dX9_closes_44 ?_
      refine vv_getR (pc := 45) X (fun _ z => by cases List.mem_singleton.mp z; exact fl_X9_45_7) dX9_closes_45 (fun v14 => ?_)
      refine vv_aload_n (pc := 48) X (kf := 0) (i := 0) rfl 0 rfl dX9_closes_48 ?_
      refine vv_getI (pc := 49) X (fun _ z => by cases List.mem_singleton.mp z; exact fl_X9_286_7) dX9_closes_49 (fun v15 => ?_)
      refine vv_bipush (pc := 52) X (by decide) dX9_closes_52 ?_
      refine vv_iastore (pc := 54) X dX9_closes_54 (fun h16 => ?_)
      refine vv_aload_n (pc := 55) X (kf := 0) (i := 0) rfl 0 rfl dX9_closes_55 ?_
      refine vv_dup (pc := 56) X rfl dX9_closes_56 ?_
      refine vv_getI (pc := 57) X (fun _ z => by cases List.mem_singleton.mp z; exact fl_X9_286_7) dX9_closes_57 (fun v17 => ?_)
      refine vv_iconst (pc := 60) X dX9_closes_60 ?_
      refine vv_iadd (pc := 61) X dX9_closes_61 ?_
      refine vv_putI (pc := 62) (fin := false) X (fun _ z => by cases List.mem_singleton.mp z; exact fl_X9_286_7) (fun z => nomatch z) (fun z => nomatch z) dX9_closes_62 (fun h18 => ?_)
      refine vv_aload_n (pc := 65) X (kf := 0) (i := 0) rfl 0 rfl dX9_closes_65 ?_
      refine vv_rcv (fun b21 t9 c9 fs9 e22 g9 k9 => ?_)
      cases List.mem_singleton.mp k9
      refine vv_callV (pc := 66) (rest := []) (by rw [e22]; rfl) (fun r8 k8 e8 => zz_callV X (m_X9_advance (hlM X) _ _ _ _ e8) g9 rfl rfl q3581 q3583 qs53 q164 q3584 nh_X9 rfl (by decide) (by decide) (Nat.le_of_ble_eq_true rfl) dX9_closes_66) (fun v19 h20 => ?_)
      refine vv_aload_n (pc := 69) X (kf := 0) (i := 0) rfl 0 rfl dX9_closes_69 ?_
      refine vv_bipush (pc := 70) X (by decide) dX9_closes_70 ?_
      refine vv_rcv (fun b25 t9 c9 fs9 e26 g9 k9 => ?_)
      cases List.mem_singleton.mp k9
      refine vv_callV (pc := 72) (rest := []) (by rw [e26]; rfl) (fun r8 k8 e8 => zz_callV X (m_X9_takesSign (hlM X) _ _ _ _ _ e8) g9 rfl rfl q3710 q3712 qs79 q164 q3713 nh_X9 rfl (by decide) (by decide) (Nat.le_of_ble_eq_true rfl) dX9_closes_72) (fun v23 h24 => ?_)
      refine vv_goto (pc := 75) (tgt := 0) X dX9_closes_75 rfl ?_
      exact hr0 _ _
theorem B_X9_closes_0 {M : hp_M} {G : va_G} {h0 : HP} (X : hp_X M G h0 "RenamedWordsModel" "closes" cX9_closes 1 none [] 4 117) : ∀ (x0 : Option Nat) (h : HP), vv M G h0 1 (hp_End M G h0) jV h 0 [(0, LR x0)] [] (b_X9_closes_0 x0 h) := by
  unfold b_X9_closes_0
  generalize FU = n
  induction n with
  | zero => intro x0 h; exact vv_none
  | succ n ih => exact C_X9_closes_0 X _ ih
noncomputable def f_X9_closes (a0 : Nat) (h : HP) : Option ((Unit) × HP) :=
  b_X9_closes_0 (some a0) h
theorem A_X9_closes {M : hp_M} {G : va_G} {h0 : HP} (X : hp_X M G h0 "RenamedWordsModel" "closes" cX9_closes 1 none [] 4 117) (a0 : Nat) (h : HP) : vv M G h0 1 (hp_End M G h0) jV h 0 [(0, LR (some a0))] [] (f_X9_closes a0 h) := by
  unfold f_X9_closes
  exact B_X9_closes_0 X _ _
theorem m_X9_closes {l : Launch} (hl : l.stackTraces = false) {G : va_G} (a0 : Nat) (h : HP) : ∀ r hf, f_X9_closes a0 h = some (r, hf) → Ct l yX9_closes (ws_ yX9_closes cX9_closes 1 none) 4 117 G h [.ref a0] (jV r) hf :=
  zz_ofW hl (by decide +kernel) (lv := [(0, LR (some a0))]) (by simp [lv_args, lvL, lvV, zz_rfc, zz_rfs, zz_ci, zz_cr, zz_cj, zz_cf, zz_cd]) (by simp [lg_sl, zz_rfc, zz_ci, zz_cr, zz_cj, zz_cf, zz_cd]) (fun _ X => A_X9_closes X a0 h)
-- X9_script RenamedWordsModel.script()V
noncomputable def b_X9_script_68 (s0 : Int) (s1 : Option Nat) (s2 : Option Nat) (h : HP) : Option ((Unit) × HP) :=
  (rcv h s1 [7]).bind fun b14 =>
  hb (f_X9_faulty b14 s0 1 h) fun v12 h13 =>
  (wrZ h13 s2 [7] 21 v12).bind fun h16 =>
  some ((), h16)
theorem B_X9_script_68 {M : hp_M} {G : va_G} {h0 : HP} (X : hp_X M G h0 "RenamedWordsModel" "script" cX9_script 1 none [] 7 204) (s0 : Int) (s1 : Option Nat) (s2 : Option Nat) (h : HP) : vv M G h0 1 (hp_End M G h0) jV h 68 [] [LI s0, LR s1, LR s2] (b_X9_script_68 s0 s1 s2 h) := by
  unfold b_X9_script_68
  refine vv_iconst (pc := 68) X dX9_script_68 ?_
  refine vv_rcv (fun b14 t9 c9 fs9 e15 g9 k9 => ?_)
  cases List.mem_singleton.mp k9
  refine vv_callI (pc := 69) (rest := [LR s2]) (by rw [e15]; rfl) (fun r8 k8 e8 => zz_callV X (m_X9_faulty (hlM X) _ _ _ _ _ _ e8) g9 rfl rfl q3612 q3614 qs59 q164 q3615 nh_X9 rfl (by decide) (by decide) (Nat.le_of_ble_eq_true rfl) dX9_script_69) (fun v12 h13 => ?_)
  refine vv_putZ (pc := 72) (fin := false) X (fun _ z => by cases List.mem_singleton.mp z; exact fl_X9_248_7) (fun z => nomatch z) (fun z => nomatch z) dX9_script_72 (fun h16 => ?_)
  exact vv_vreturn X rfl rfl dX9_script_75
noncomputable def b_X9_script_54 (x0 : Option Nat) (h : HP) : Option ((Unit) × HP) :=
  (rdI h x0 [7] 31).bind fun v11 =>
  iLE v11 0
    (b_X9_script_68 0 x0 x0 h)
    (b_X9_script_68 1 x0 x0 h)
theorem B_X9_script_54 {M : hp_M} {G : va_G} {h0 : HP} (X : hp_X M G h0 "RenamedWordsModel" "script" cX9_script 1 none [] 7 204) (x0 : Option Nat) (h : HP) : vv M G h0 1 (hp_End M G h0) jV h 54 [(0, LR x0)] [] (b_X9_script_54 x0 h) := by
  unfold b_X9_script_54
  refine vv_aload_n (pc := 54) X (kf := 0) (i := 0) rfl 0 rfl dX9_script_54 ?_
  refine vv_aload_n (pc := 55) X (kf := 0) (i := 0) rfl 0 rfl dX9_script_55 ?_
  refine vv_aload_n (pc := 56) X (kf := 0) (i := 0) rfl 0 rfl dX9_script_56 ?_
  refine vv_getI (pc := 57) X (fun _ z => by cases List.mem_singleton.mp z; exact fl_X9_310_7) dX9_script_57 (fun v11 => ?_)
  refine vv_if_le (pc := 60) (tgt := 67) X dX9_script_60 rfl ?_ ?_
  · refine vv_iconst (pc := 67) X dX9_script_67 ?_
    exact vv_sub [] (by rfl) (B_X9_script_68 X _ _ _ _)
  · refine vv_iconst (pc := 63) X dX9_script_63 ?_
    refine vv_goto (pc := 64) (tgt := 68) X dX9_script_64 rfl ?_
    exact vv_sub [] (by rfl) (B_X9_script_68 X _ _ _ _)
noncomputable def c_X9_script_29 (r29 : Option Nat → HP → Option ((Unit) × HP)) (x0 : Option Nat) (h : HP) : Option ((Unit) × HP) :=
  (rdI h x0 [7] 17).bind fun v10 =>
  iEQ v10 0
    ((rdI h x0 [7] 15).bind fun v17 =>
    iEQ v17 0
      (b_X9_script_54 x0 h)
      ((rcv h x0 [7]).bind fun b20 =>
      hb (f_X9_readsOrder b20 h) fun _ h19 =>
      (rcv h19 x0 [7]).bind fun b24 =>
      hb (f_X9_closes b24 h19) fun _ h23 =>
      r29 x0 h23))
    (b_X9_script_54 x0 h)
noncomputable def b_X9_script_29 : Option Nat → HP → Option ((Unit) × HP) := fx (fun _ _ => none) (c_X9_script_29) FU
theorem C_X9_script_29 {M : hp_M} {G : va_G} {h0 : HP} (X : hp_X M G h0 "RenamedWordsModel" "script" cX9_script 1 none [] 7 204) (r29 : Option Nat → HP → Option ((Unit) × HP)) (hr29 : ∀ (y0 : Option Nat) (h : HP), vv M G h0 1 (hp_End M G h0) jV h 29 [(0, LR y0)] [] (r29 y0 h)) (x0 : Option Nat) (h : HP) : vv M G h0 1 (hp_End M G h0) jV h 29 [(0, LR x0)] [] (c_X9_script_29 r29 x0 h) := by
  unfold c_X9_script_29
  refine vv_aload_n (pc := 29) X (kf := 0) (i := 0) rfl 0 rfl dX9_script_29 ?_
  refine vv_getI (pc := 30) X (fun _ z => by cases List.mem_singleton.mp z; exact fl_X9_182_7) dX9_script_30 (fun v10 => ?_)
  refine vv_if_ne (pc := 33) (tgt := 54) X dX9_script_33 rfl ?_ ?_
  · exact B_X9_script_54 X _ _
  · refine vv_aload_n (pc := 36) X (kf := 0) (i := 0) rfl 0 rfl dX9_script_36 ?_
    refine vv_getI (pc := 37) X (fun _ z => by cases List.mem_singleton.mp z; exact fl_X9_172_7) dX9_script_37 (fun v17 => ?_)
    refine vv_if_eq (pc := 40) (tgt := 54) X dX9_script_40 rfl ?_ ?_
    · exact B_X9_script_54 X _ _
    · refine vv_aload_n (pc := 43) X (kf := 0) (i := 0) rfl 0 rfl dX9_script_43 ?_
      refine vv_rcv (fun b20 t9 c9 fs9 e21 g9 k9 => ?_)
      cases List.mem_singleton.mp k9
      refine vv_callV (pc := 44) (rest := []) (by rw [e21]; rfl) (fun r8 k8 e8 => zz_callV X (m_X9_readsOrder (hlM X) _ _ _ _ e8) g9 rfl rfl q3674 q3676 qs72 q164 q3677 nh_X9 rfl (by decide) (by decide) (Nat.le_of_ble_eq_true rfl) dX9_script_44) (fun v18 h19 => ?_)
      refine vv_aload_n (pc := 47) X (kf := 0) (i := 0) rfl 0 rfl dX9_script_47 ?_
      refine vv_rcv (fun b24 t9 c9 fs9 e25 g9 k9 => ?_)
      cases List.mem_singleton.mp k9
      refine vv_callV (pc := 48) (rest := []) (by rw [e25]; rfl) (fun r8 k8 e8 => zz_callV X (m_X9_closes (hlM X) _ _ _ _ e8) g9 rfl rfl q3715 q3717 qs80 q164 q3718 nh_X9 rfl (by decide) (by decide) (Nat.le_of_ble_eq_true rfl) dX9_script_48) (fun v22 h23 => ?_)
      refine vv_goto (pc := 51) (tgt := 29) X dX9_script_51 rfl ?_
      exact hr29 _ _
theorem B_X9_script_29 {M : hp_M} {G : va_G} {h0 : HP} (X : hp_X M G h0 "RenamedWordsModel" "script" cX9_script 1 none [] 7 204) : ∀ (x0 : Option Nat) (h : HP), vv M G h0 1 (hp_End M G h0) jV h 29 [(0, LR x0)] [] (b_X9_script_29 x0 h) := by
  unfold b_X9_script_29
  generalize FU = n
  induction n with
  | zero => intro x0 h; exact vv_none
  | succ n ih => exact C_X9_script_29 X _ ih
noncomputable def f_X9_script (a0 : Nat) (h : HP) : Option ((Unit) × HP) :=
  (wrI h (some a0) [7] 14 0).bind fun h1 =>
  (wrI h1 (some a0) [7] 17 0).bind fun h2 =>
  (wrI h2 (some a0) [7] 29 0).bind fun h3 =>
  (wrI h3 (some a0) [7] 30 0).bind fun h4 =>
  (wrI h4 (some a0) [7] 31 0).bind fun h5 =>
  (rcv h5 (some a0) [7]).bind fun b8 =>
  hb (f_X9_advance b8 h5) fun _ h7 =>
  b_X9_script_29 (some a0) h7
theorem A_X9_script {M : hp_M} {G : va_G} {h0 : HP} (X : hp_X M G h0 "RenamedWordsModel" "script" cX9_script 1 none [] 7 204) (a0 : Nat) (h : HP) : vv M G h0 1 (hp_End M G h0) jV h 0 [(0, LR (some a0))] [] (f_X9_script a0 h) := by
  unfold f_X9_script
  refine vv_aload_n (pc := 0) X (kf := 0) (i := 0) rfl 0 rfl dX9_script_0 ?_
  refine vv_iconst (pc := 1) X dX9_script_1 ?_
  refine vv_putI (pc := 2) (fin := false) X (fun _ z => by cases List.mem_singleton.mp z; exact fl_X9_163_7) (fun z => nomatch z) (fun z => nomatch z) dX9_script_2 (fun h1 => ?_)
  refine vv_aload_n (pc := 5) X (kf := 0) (i := 0) rfl 0 rfl dX9_script_5 ?_
  refine vv_iconst (pc := 6) X dX9_script_6 ?_
  refine vv_putI (pc := 7) (fin := false) X (fun _ z => by cases List.mem_singleton.mp z; exact fl_X9_182_7) (fun z => nomatch z) (fun z => nomatch z) dX9_script_7 (fun h2 => ?_)
  refine vv_aload_n (pc := 10) X (kf := 0) (i := 0) rfl 0 rfl dX9_script_10 ?_
  refine vv_iconst (pc := 11) X dX9_script_11 ?_
  refine vv_putI (pc := 12) (fin := false) X (fun _ z => by cases List.mem_singleton.mp z; exact fl_X9_286_7) (fun z => nomatch z) (fun z => nomatch z) dX9_script_12 (fun h3 => ?_)
  refine vv_aload_n (pc := 15) X (kf := 0) (i := 0) rfl 0 rfl dX9_script_15 ?_
  refine vv_iconst (pc := 16) X dX9_script_16 ?_
  refine vv_putI (pc := 17) (fin := false) X (fun _ z => by cases List.mem_singleton.mp z; exact fl_X9_298_7) (fun z => nomatch z) (fun z => nomatch z) dX9_script_17 (fun h4 => ?_)
  refine vv_aload_n (pc := 20) X (kf := 0) (i := 0) rfl 0 rfl dX9_script_20 ?_
  refine vv_iconst (pc := 21) X dX9_script_21 ?_
  refine vv_putI (pc := 22) (fin := false) X (fun _ z => by cases List.mem_singleton.mp z; exact fl_X9_310_7) (fun z => nomatch z) (fun z => nomatch z) dX9_script_22 (fun h5 => ?_)
  refine vv_aload_n (pc := 25) X (kf := 0) (i := 0) rfl 0 rfl dX9_script_25 ?_
  refine vv_rcv (fun b8 t9 c9 fs9 e9 g9 k9 => ?_)
  cases List.mem_singleton.mp k9
  refine vv_callV (pc := 26) (rest := []) (by rw [e9]; rfl) (fun r8 k8 e8 => zz_callV X (m_X9_advance (hlM X) _ _ _ _ e8) g9 rfl rfl q3581 q3583 qs53 q164 q3584 nh_X9 rfl (by decide) (by decide) (Nat.le_of_ble_eq_true rfl) dX9_script_26) (fun v6 h7 => ?_)
  exact B_X9_script_29 X _ _
theorem m_X9_script {l : Launch} (hl : l.stackTraces = false) {G : va_G} (a0 : Nat) (h : HP) : ∀ r hf, f_X9_script a0 h = some (r, hf) → Ct l yX9_script (ws_ yX9_script cX9_script 1 none) 7 204 G h [.ref a0] (jV r) hf :=
  zz_ofW hl (by decide +kernel) (lv := [(0, LR (some a0))]) (by simp [lv_args, lvL, lvV, zz_rfc, zz_rfs, zz_ci, zz_cr, zz_cj, zz_cf, zz_cd]) (by simp [lg_sl, zz_rfc, zz_ci, zz_cr, zz_cj, zz_cf, zz_cd]) (fun _ X => A_X9_script X a0 h)
-- X9_remembers RenamedWordsModel.remembers([I)V
noncomputable def b_X9_remembers_50 (x0 : Option Nat) (x1 : Option Nat) (h : HP) : Option ((Unit) × HP) :=
  (rdR h x0 [7] 3).bind fun v2 =>
  (rdI h x0 [7] 6).bind fun v3 =>
  hb (f_X9_lays x1 0 v2 (576 * v3) h) fun _ h5 =>
  (rdI h5 x0 [7] 6).bind fun v6 =>
  (wrI h5 x0 [7] 6 (v6 + 1)).bind fun h7 =>
  some ((), h7)
theorem B_X9_remembers_50 {M : hp_M} {G : va_G} {h0 : HP} (X : hp_X M G h0 "RenamedWordsModel" "remembers" cX9_remembers 3 none [] 1 32) (x0 : Option Nat) (x1 : Option Nat) (h : HP) : vv M G h0 3 (hp_End M G h0) jV h 50 [(0, LR x0), (1, LR x1)] [] (b_X9_remembers_50 x0 x1 h) := by
  unfold b_X9_remembers_50
  refine vv_aload_n (pc := 50) X (kf := 1) (i := 1) rfl 1 rfl dX9_remembers_50 ?_
  refine vv_iconst (pc := 51) X dX9_remembers_51 ?_
  refine vv_aload_n (pc := 52) X (kf := 0) (i := 0) rfl 0 rfl dX9_remembers_52 ?_
  refine vv_getR (pc := 53) X (fun _ z => by cases List.mem_singleton.mp z; exact fl_X9_19_7) dX9_remembers_53 (fun v2 => ?_)
  refine vv_sipush (pc := 56) X (by decide) dX9_remembers_56 ?_
  refine vv_aload_n (pc := 59) X (kf := 0) (i := 0) rfl 0 rfl dX9_remembers_59 ?_
  refine vv_getI (pc := 60) X (fun _ z => by cases List.mem_singleton.mp z; exact fl_X9_264_7) dX9_remembers_60 (fun v3 => ?_)
  refine vv_imul (pc := 63) X dX9_remembers_63 ?_
  refine vv_callV (pc := 64) (rest := []) (by rfl) (fun r8 k8 e8 => zz_callS X (m_X9_lays (hlM X) _ _ _ _ _ _ _ e8) q3574 q3575 q164 q3576 nh_X9 rfl (by decide) (by decide) (Nat.le_of_ble_eq_true rfl) dX9_remembers_64) (fun v4 h5 => ?_)
  refine vv_aload_n (pc := 67) X (kf := 0) (i := 0) rfl 0 rfl dX9_remembers_67 ?_
  refine vv_dup (pc := 68) X rfl dX9_remembers_68 ?_
  refine vv_getI (pc := 69) X (fun _ z => by cases List.mem_singleton.mp z; exact fl_X9_264_7) dX9_remembers_69 (fun v6 => ?_)
  refine vv_iconst (pc := 72) X dX9_remembers_72 ?_
  refine vv_iadd (pc := 73) X dX9_remembers_73 ?_
  refine vv_putI (pc := 74) (fin := false) X (fun _ z => by cases List.mem_singleton.mp z; exact fl_X9_264_7) (fun z => nomatch z) (fun z => nomatch z) dX9_remembers_74 (fun h7 => ?_)
  exact vv_vreturn X rfl rfl dX9_remembers_77
noncomputable def c_X9_remembers_11 (r11 : Option Nat → Option Nat → Int → HP → Option ((Unit) × HP)) (x0 : Option Nat) (x1 : Option Nat) (x2 : Int) (h : HP) : Option ((Unit) × HP) :=
  iLE 4032 x2
    ((rdI h x0 [7] 6).bind fun v8 =>
    (wrI h x0 [7] 6 (v8 - 1)).bind fun h9 =>
    b_X9_remembers_50 x0 x1 h9)
    ((rdR h x0 [7] 3).bind fun v10 =>
    (rdR h x0 [7] 3).bind fun v11 =>
    (aldI h .int v11 (x2 + 576)).bind fun v12 =>
    (astI h .int v10 x2 v12).bind fun h13 =>
    r11 x0 x1 (x2 + 1) h13)
noncomputable def b_X9_remembers_11 : Option Nat → Option Nat → Int → HP → Option ((Unit) × HP) := fx (fun _ _ _ _ => none) (c_X9_remembers_11) FU
theorem C_X9_remembers_11 {M : hp_M} {G : va_G} {h0 : HP} (X : hp_X M G h0 "RenamedWordsModel" "remembers" cX9_remembers 3 none [] 1 32) (r11 : Option Nat → Option Nat → Int → HP → Option ((Unit) × HP)) (hr11 : ∀ (y0 : Option Nat) (y1 : Option Nat) (y2 : Int) (h : HP), vv M G h0 3 (hp_End M G h0) jV h 11 [(0, LR y0), (1, LR y1), (2, LI y2)] [] (r11 y0 y1 y2 h)) (x0 : Option Nat) (x1 : Option Nat) (x2 : Int) (h : HP) : vv M G h0 3 (hp_End M G h0) jV h 11 [(0, LR x0), (1, LR x1), (2, LI x2)] [] (c_X9_remembers_11 r11 x0 x1 x2 h) := by
  unfold c_X9_remembers_11
  refine vv_iload_n (pc := 11) X (kf := 2) (i := 2) rfl 2 rfl dX9_remembers_11 ?_
  refine vv_sipush (pc := 12) X (by decide) dX9_remembers_12 ?_
  refine vv_icmp_ge (pc := 15) (tgt := 40) X dX9_remembers_15 rfl ?_ ?_
  · refine vv_aload_n (pc := 40) X (kf := 0) (i := 0) rfl 0 rfl dX9_remembers_40 ?_
    refine vv_dup (pc := 41) X rfl dX9_remembers_41 ?_
    refine vv_getI (pc := 42) X (fun _ z => by cases List.mem_singleton.mp z; exact fl_X9_264_7) dX9_remembers_42 (fun v8 => ?_)
    refine vv_iconst (pc := 45) X dX9_remembers_45 ?_
    refine vv_isub (pc := 46) X dX9_remembers_46 ?_
    refine vv_putI (pc := 47) (fin := false) X (fun _ z => by cases List.mem_singleton.mp z; exact fl_X9_264_7) (fun z => nomatch z) (fun z => nomatch z) dX9_remembers_47 (fun h9 => ?_)
    exact vv_sub [0, 1] (by rfl) (B_X9_remembers_50 X _ _ _)
  · refine vv_aload_n (pc := 18) X (kf := 0) (i := 0) rfl 0 rfl dX9_remembers_18 ?_
    refine vv_getR (pc := 19) X (fun _ z => by cases List.mem_singleton.mp z; exact fl_X9_19_7) dX9_remembers_19 (fun v10 => ?_)
    refine vv_iload_n (pc := 22) X (kf := 2) (i := 2) rfl 2 rfl dX9_remembers_22 ?_
    refine vv_aload_n (pc := 23) X (kf := 0) (i := 0) rfl 0 rfl dX9_remembers_23 ?_
    refine vv_getR (pc := 24) X (fun _ z => by cases List.mem_singleton.mp z; exact fl_X9_19_7) dX9_remembers_24 (fun v11 => ?_)
    refine vv_iload_n (pc := 27) X (kf := 2) (i := 2) rfl 2 rfl dX9_remembers_27 ?_
    refine vv_sipush (pc := 28) X (by decide) dX9_remembers_28 ?_
    refine vv_iadd (pc := 31) X dX9_remembers_31 ?_
    refine vv_iaload (pc := 32) X dX9_remembers_32 (fun v12 => ?_)
    refine vv_iastore (pc := 33) X dX9_remembers_33 (fun h13 => ?_)
    refine vv_iinc (pc := 34) (lv' := [(2, LI (x2 + 1)), (0, LR x0), (1, LR x1)]) X 2 rfl (by decide) rfl dX9_remembers_34 ?_
    refine vv_goto (pc := 37) (tgt := 11) X dX9_remembers_37 rfl ?_
    exact vv_sub [1, 2, 0] (by rfl) (hr11 _ _ _ _)
theorem B_X9_remembers_11 {M : hp_M} {G : va_G} {h0 : HP} (X : hp_X M G h0 "RenamedWordsModel" "remembers" cX9_remembers 3 none [] 1 32) : ∀ (x0 : Option Nat) (x1 : Option Nat) (x2 : Int) (h : HP), vv M G h0 3 (hp_End M G h0) jV h 11 [(0, LR x0), (1, LR x1), (2, LI x2)] [] (b_X9_remembers_11 x0 x1 x2 h) := by
  unfold b_X9_remembers_11
  generalize FU = n
  induction n with
  | zero => intro x0 x1 x2 h; exact vv_none
  | succ n ih => exact C_X9_remembers_11 X _ ih
noncomputable def f_X9_remembers (a0 : Nat) (a1 : Option Nat) (h : HP) : Option ((Unit) × HP) :=
  (rdI h (some a0) [7] 6).bind fun v1 =>
  iEQ v1 8
    (b_X9_remembers_11 (some a0) a1 0 h)
    (b_X9_remembers_50 (some a0) a1 h)
theorem A_X9_remembers {M : hp_M} {G : va_G} {h0 : HP} (X : hp_X M G h0 "RenamedWordsModel" "remembers" cX9_remembers 3 none [] 1 32) (a0 : Nat) (a1 : Option Nat) (h : HP) : vv M G h0 3 (hp_End M G h0) jV h 0 [(0, LR (some a0)), (1, LR a1)] [] (f_X9_remembers a0 a1 h) := by
  unfold f_X9_remembers
  refine vv_aload_n (pc := 0) X (kf := 0) (i := 0) rfl 0 rfl dX9_remembers_0 ?_
  refine vv_getI (pc := 1) X (fun _ z => by cases List.mem_singleton.mp z; exact fl_X9_264_7) dX9_remembers_1 (fun v1 => ?_)
  refine vv_bipush (pc := 4) X (by decide) dX9_remembers_4 ?_
  refine vv_icmp_ne (pc := 6) (tgt := 50) X dX9_remembers_6 rfl ?_ ?_
  · exact B_X9_remembers_50 X _ _ _
  · refine vv_iconst (pc := 9) X dX9_remembers_9 ?_
    refine vv_istore_n (pc := 10) (lv' := [(2, LI 0), (0, LR (some a0)), (1, LR a1)]) X (kf := 2) (i := 2) rfl (by decide) rfl dX9_remembers_10 ?_
    exact vv_sub [1, 2, 0] (by rfl) (B_X9_remembers_11 X _ _ _ _)
theorem m_X9_remembers {l : Launch} (hl : l.stackTraces = false) {G : va_G} (a0 : Nat) (a1 : Option Nat) (h : HP) : ∀ r hf, f_X9_remembers a0 a1 h = some (r, hf) → Ct l yX9_remembers (ws_ yX9_remembers cX9_remembers 3 none) 1 32 G h [.ref a0, va_rf a1] (jV r) hf :=
  zz_ofW hl (by decide +kernel) (lv := [(0, LR (some a0)), (1, LR a1)]) (by simp [lv_args, lvL, lvV, zz_rfc, zz_rfs, zz_ci, zz_cr, zz_cj, zz_cf, zz_cd]) (by simp [lg_sl, zz_rfc, zz_ci, zz_cr, zz_cj, zz_cf, zz_cd]) (fun _ X => A_X9_remembers X a0 a1 h)
-- X9_counts RenamedWordsModel.counts(II)V
noncomputable def f_X9_counts (a0 : Nat) (a1 : Int) (a2 : Int) (h : HP) : Option ((Unit) × HP) :=
  (rdR h (some a0) [7] 0).bind fun v1 =>
  (aldI h .int v1 (4 + a1)).bind fun v2 =>
  (astI h .int v1 (4 + a1) (v2 + a2)).bind fun h3 =>
  some ((), h3)
theorem A_X9_counts {M : hp_M} {G : va_G} {h0 : HP} (X : hp_X M G h0 "RenamedWordsModel" "counts" cX9_counts 3 none [] 0 0) (a0 : Nat) (a1 : Int) (a2 : Int) (h : HP) : vv M G h0 3 (hp_End M G h0) jV h 0 [(0, LR (some a0)), (1, LI a1), (2, LI a2)] [] (f_X9_counts a0 a1 a2 h) := by
  unfold f_X9_counts
  refine vv_aload_n (pc := 0) X (kf := 0) (i := 0) rfl 0 rfl dX9_counts_0 ?_
  refine vv_getR (pc := 1) X (fun _ z => by cases List.mem_singleton.mp z; exact fl_X9_9_7) dX9_counts_1 (fun v1 => ?_)
  refine vv_iconst (pc := 4) X dX9_counts_4 ?_
  refine vv_iload_n (pc := 5) X (kf := 1) (i := 1) rfl 1 rfl dX9_counts_5 ?_
  refine vv_iadd (pc := 6) X dX9_counts_6 ?_
  refine vv_dup2 (pc := 7) X rfl rfl dX9_counts_7 ?_
  refine vv_iaload (pc := 8) X dX9_counts_8 (fun v2 => ?_)
  refine vv_iload_n (pc := 9) X (kf := 2) (i := 2) rfl 2 rfl dX9_counts_9 ?_
  refine vv_iadd (pc := 10) X dX9_counts_10 ?_
  refine vv_iastore (pc := 11) X dX9_counts_11 (fun h3 => ?_)
  exact vv_vreturn X rfl rfl dX9_counts_12
theorem m_X9_counts {l : Launch} (hl : l.stackTraces = false) {G : va_G} (a0 : Nat) (a1 : Int) (a2 : Int) (h : HP) : ∀ r hf, f_X9_counts a0 a1 a2 h = some (r, hf) → Ct l yX9_counts (ws_ yX9_counts cX9_counts 3 none) 0 0 G h [.ref a0, .int (iI a1), .int (iI a2)] (jV r) hf :=
  zz_ofW hl (by decide +kernel) (lv := [(0, LR (some a0)), (1, LI a1), (2, LI a2)]) (by simp [lv_args, lvL, lvV, zz_rfc, zz_rfs, zz_ci, zz_cr, zz_cj, zz_cf, zz_cd]) (by simp [lg_sl, zz_rfc, zz_ci, zz_cr, zz_cj, zz_cf, zz_cd]) (fun _ X => A_X9_counts X a0 a1 a2 h)
-- X9_markPlace RenamedWordsModel.markPlace(I)I
noncomputable def f_X9_markPlace (a0 : Nat) (a1 : Int) (h : HP) : Option ((Int) × HP) :=
  (rdR h (some a0) [7] 0).bind fun v1 =>
  (aldI h .int v1 (456 + (2 * a1))).bind fun v2 =>
  some (v2, h)
theorem A_X9_markPlace {M : hp_M} {G : va_G} {h0 : HP} (X : hp_X M G h0 "RenamedWordsModel" "markPlace" cX9_markPlace 2 (some .int) [] 0 0) (a0 : Nat) (a1 : Int) (h : HP) : vv M G h0 2 (hp_End M G h0) jI h 0 [(0, LR (some a0)), (1, LI a1)] [] (f_X9_markPlace a0 a1 h) := by
  unfold f_X9_markPlace
  refine vv_aload_n (pc := 0) X (kf := 0) (i := 0) rfl 0 rfl dX9_markPlace_0 ?_
  refine vv_getR (pc := 1) X (fun _ z => by cases List.mem_singleton.mp z; exact fl_X9_9_7) dX9_markPlace_1 (fun v1 => ?_)
  refine vv_sipush (pc := 4) X (by decide) dX9_markPlace_4 ?_
  refine vv_iconst (pc := 7) X dX9_markPlace_7 ?_
  refine vv_iload_n (pc := 8) X (kf := 1) (i := 1) rfl 1 rfl dX9_markPlace_8 ?_
  refine vv_imul (pc := 9) X dX9_markPlace_9 ?_
  refine vv_iadd (pc := 10) X dX9_markPlace_10 ?_
  refine vv_iaload (pc := 11) X dX9_markPlace_11 (fun v2 => ?_)
  exact vv_iretI X rfl rfl dX9_markPlace_12
theorem m_X9_markPlace {l : Launch} (hl : l.stackTraces = false) {G : va_G} (a0 : Nat) (a1 : Int) (h : HP) : ∀ r hf, f_X9_markPlace a0 a1 h = some (r, hf) → Ct l yX9_markPlace (ws_ yX9_markPlace cX9_markPlace 2 (some .int)) 0 0 G h [.ref a0, .int (iI a1)] (jI r) hf :=
  zz_ofW hl (by decide +kernel) (lv := [(0, LR (some a0)), (1, LI a1)]) (by simp [lv_args, lvL, lvV, zz_rfc, zz_rfs, zz_ci, zz_cr, zz_cj, zz_cf, zz_cd]) (by simp [lg_sl, zz_rfc, zz_ci, zz_cr, zz_cj, zz_cf, zz_cd]) (fun _ X => A_X9_markPlace X a0 a1 h)
-- X9_shifts RenamedWordsModel.shifts(II)V
noncomputable def b_X9_shifts_37 (r2 : Option Nat → Int → Int → Int → HP → Option ((Unit) × HP)) (x0 : Option Nat) (x1 : Int) (x2 : Int) (x3 : Int) (h : HP) : Option ((Unit) × HP) :=
  r2 x0 x1 x2 (x3 + 1) h
theorem B_X9_shifts_37 {M : hp_M} {G : va_G} {h0 : HP} (X : hp_X M G h0 "RenamedWordsModel" "shifts" cX9_shifts 4 none [] 1 29) (r2 : Option Nat → Int → Int → Int → HP → Option ((Unit) × HP)) (hr2 : ∀ (y0 : Option Nat) (y1 : Int) (y2 : Int) (y3 : Int) (h : HP), vv M G h0 4 (hp_End M G h0) jV h 2 [(0, LR y0), (1, LI y1), (2, LI y2), (3, LI y3)] [] (r2 y0 y1 y2 y3 h)) (x0 : Option Nat) (x1 : Int) (x2 : Int) (x3 : Int) (h : HP) : vv M G h0 4 (hp_End M G h0) jV h 37 [(0, LR x0), (1, LI x1), (2, LI x2), (3, LI x3)] [] (b_X9_shifts_37 r2 x0 x1 x2 x3 h) := by
  unfold b_X9_shifts_37
  refine vv_iinc (pc := 37) (lv' := [(3, LI (x3 + 1)), (0, LR x0), (1, LI x1), (2, LI x2)]) X 3 rfl (by decide) rfl dX9_shifts_37 ?_
  refine vv_goto (pc := 40) (tgt := 2) X dX9_shifts_40 rfl ?_
  exact vv_sub [1, 2, 3, 0] (by rfl) (hr2 _ _ _ _ _)
noncomputable def c_X9_shifts_2 (r2 : Option Nat → Int → Int → Int → HP → Option ((Unit) × HP)) (x0 : Option Nat) (x1 : Int) (x2 : Int) (x3 : Int) (h : HP) : Option ((Unit) × HP) :=
  (rdR h x0 [7] 0).bind fun v1 =>
  (aldI h .int v1 3).bind fun v2 =>
  iLE v2 x3
    (some ((), h))
    ((rcv h x0 [7]).bind fun b5 =>
    hb (f_X9_markPlace b5 x3 h) fun v3 h4 =>
    iLT v3 x1
      (b_X9_shifts_37 r2 x0 x1 x2 x3 h4)
      ((rdR h4 x0 [7] 0).bind fun v7 =>
      (aldI h4 .int v7 (456 + (2 * x3))).bind fun v8 =>
      (astI h4 .int v7 (456 + (2 * x3)) (v8 + x2)).bind fun h9 =>
      b_X9_shifts_37 r2 x0 x1 x2 x3 h9))
noncomputable def b_X9_shifts_2 : Option Nat → Int → Int → Int → HP → Option ((Unit) × HP) := fx (fun _ _ _ _ _ => none) (c_X9_shifts_2) FU
theorem C_X9_shifts_2 {M : hp_M} {G : va_G} {h0 : HP} (X : hp_X M G h0 "RenamedWordsModel" "shifts" cX9_shifts 4 none [] 1 29) (r2 : Option Nat → Int → Int → Int → HP → Option ((Unit) × HP)) (hr2 : ∀ (y0 : Option Nat) (y1 : Int) (y2 : Int) (y3 : Int) (h : HP), vv M G h0 4 (hp_End M G h0) jV h 2 [(0, LR y0), (1, LI y1), (2, LI y2), (3, LI y3)] [] (r2 y0 y1 y2 y3 h)) (x0 : Option Nat) (x1 : Int) (x2 : Int) (x3 : Int) (h : HP) : vv M G h0 4 (hp_End M G h0) jV h 2 [(0, LR x0), (1, LI x1), (2, LI x2), (3, LI x3)] [] (c_X9_shifts_2 r2 x0 x1 x2 x3 h) := by
  unfold c_X9_shifts_2
  refine vv_iload_n (pc := 2) X (kf := 3) (i := 3) rfl 3 rfl dX9_shifts_2 ?_
  refine vv_aload_n (pc := 3) X (kf := 0) (i := 0) rfl 0 rfl dX9_shifts_3 ?_
  refine vv_getR (pc := 4) X (fun _ z => by cases List.mem_singleton.mp z; exact fl_X9_9_7) dX9_shifts_4 (fun v1 => ?_)
  refine vv_iconst (pc := 7) X dX9_shifts_7 ?_
  refine vv_iaload (pc := 8) X dX9_shifts_8 (fun v2 => ?_)
  refine vv_icmp_ge (pc := 9) (tgt := 43) X dX9_shifts_9 rfl ?_ ?_
  · exact vv_vreturn X rfl rfl dX9_shifts_43
  · refine vv_aload_n (pc := 12) X (kf := 0) (i := 0) rfl 0 rfl dX9_shifts_12 ?_
    refine vv_iload_n (pc := 13) X (kf := 3) (i := 3) rfl 3 rfl dX9_shifts_13 ?_
    refine vv_rcv (fun b5 t9 c9 fs9 e6 g9 k9 => ?_)
    cases List.mem_singleton.mp k9
    refine vv_callI (pc := 14) (rest := []) (by rw [e6]; rfl) (fun r8 k8 e8 => zz_callV X (m_X9_markPlace (hlM X) _ _ _ _ _ e8) g9 rfl rfl q3747 q3749 qs88 q164 q3750 nh_X9 rfl (by decide) (by decide) (Nat.le_of_ble_eq_true rfl) dX9_shifts_14) (fun v3 h4 => ?_)
    refine vv_iload_n (pc := 17) X (kf := 1) (i := 1) rfl 1 rfl dX9_shifts_17 ?_
    refine vv_icmp_lt (pc := 18) (tgt := 37) X dX9_shifts_18 rfl ?_ ?_
    · exact B_X9_shifts_37 X r2 hr2 _ _ _ _ _
    · refine vv_aload_n (pc := 21) X (kf := 0) (i := 0) rfl 0 rfl dX9_shifts_21 ?_
      refine vv_getR (pc := 22) X (fun _ z => by cases List.mem_singleton.mp z; exact fl_X9_9_7) dX9_shifts_22 (fun v7 => ?_)
      refine vv_sipush (pc := 25) X (by decide) dX9_shifts_25 ?_
      refine vv_iconst (pc := 28) X dX9_shifts_28 ?_
      refine vv_iload_n (pc := 29) X (kf := 3) (i := 3) rfl 3 rfl dX9_shifts_29 ?_
      refine vv_imul (pc := 30) X dX9_shifts_30 ?_
      refine vv_iadd (pc := 31) X dX9_shifts_31 ?_
      refine vv_dup2 (pc := 32) X rfl rfl dX9_shifts_32 ?_
      refine vv_iaload (pc := 33) X dX9_shifts_33 (fun v8 => ?_)
      refine vv_iload_n (pc := 34) X (kf := 2) (i := 2) rfl 2 rfl dX9_shifts_34 ?_
      refine vv_iadd (pc := 35) X dX9_shifts_35 ?_
      refine vv_iastore (pc := 36) X dX9_shifts_36 (fun h9 => ?_)
      exact B_X9_shifts_37 X r2 hr2 _ _ _ _ _
theorem B_X9_shifts_2 {M : hp_M} {G : va_G} {h0 : HP} (X : hp_X M G h0 "RenamedWordsModel" "shifts" cX9_shifts 4 none [] 1 29) : ∀ (x0 : Option Nat) (x1 : Int) (x2 : Int) (x3 : Int) (h : HP), vv M G h0 4 (hp_End M G h0) jV h 2 [(0, LR x0), (1, LI x1), (2, LI x2), (3, LI x3)] [] (b_X9_shifts_2 x0 x1 x2 x3 h) := by
  unfold b_X9_shifts_2
  generalize FU = n
  induction n with
  | zero => intro x0 x1 x2 x3 h; exact vv_none
  | succ n ih => exact C_X9_shifts_2 X _ ih
noncomputable def f_X9_shifts (a0 : Nat) (a1 : Int) (a2 : Int) (h : HP) : Option ((Unit) × HP) :=
  b_X9_shifts_2 (some a0) a1 a2 0 h
theorem A_X9_shifts {M : hp_M} {G : va_G} {h0 : HP} (X : hp_X M G h0 "RenamedWordsModel" "shifts" cX9_shifts 4 none [] 1 29) (a0 : Nat) (a1 : Int) (a2 : Int) (h : HP) : vv M G h0 4 (hp_End M G h0) jV h 0 [(0, LR (some a0)), (1, LI a1), (2, LI a2)] [] (f_X9_shifts a0 a1 a2 h) := by
  unfold f_X9_shifts
  refine vv_iconst (pc := 0) X dX9_shifts_0 ?_
  refine vv_istore_n (pc := 1) (lv' := [(3, LI 0), (0, LR (some a0)), (1, LI a1), (2, LI a2)]) X (kf := 3) (i := 3) rfl (by decide) rfl dX9_shifts_1 ?_
  exact vv_sub [1, 2, 3, 0] (by rfl) (B_X9_shifts_2 X _ _ _ _ _)
theorem m_X9_shifts {l : Launch} (hl : l.stackTraces = false) {G : va_G} (a0 : Nat) (a1 : Int) (a2 : Int) (h : HP) : ∀ r hf, f_X9_shifts a0 a1 a2 h = some (r, hf) → Ct l yX9_shifts (ws_ yX9_shifts cX9_shifts 4 none) 1 29 G h [.ref a0, .int (iI a1), .int (iI a2)] (jV r) hf :=
  zz_ofW hl (by decide +kernel) (lv := [(0, LR (some a0)), (1, LI a1), (2, LI a2)]) (by simp [lv_args, lvL, lvV, zz_rfc, zz_rfs, zz_ci, zz_cr, zz_cj, zz_cf, zz_cd]) (by simp [lg_sl, zz_rfc, zz_ci, zz_cr, zz_cj, zz_cf, zz_cd]) (fun _ X => A_X9_shifts X a0 a1 a2 h)
-- X9_markPattern RenamedWordsModel.markPattern(I)I
noncomputable def f_X9_markPattern (a0 : Nat) (a1 : Int) (h : HP) : Option ((Int) × HP) :=
  (rdR h (some a0) [7] 0).bind fun v1 =>
  (aldI h .int v1 ((456 + (2 * a1)) + 1)).bind fun v2 =>
  some (v2, h)
theorem A_X9_markPattern {M : hp_M} {G : va_G} {h0 : HP} (X : hp_X M G h0 "RenamedWordsModel" "markPattern" cX9_markPattern 2 (some .int) [] 0 0) (a0 : Nat) (a1 : Int) (h : HP) : vv M G h0 2 (hp_End M G h0) jI h 0 [(0, LR (some a0)), (1, LI a1)] [] (f_X9_markPattern a0 a1 h) := by
  unfold f_X9_markPattern
  refine vv_aload_n (pc := 0) X (kf := 0) (i := 0) rfl 0 rfl dX9_markPattern_0 ?_
  refine vv_getR (pc := 1) X (fun _ z => by cases List.mem_singleton.mp z; exact fl_X9_9_7) dX9_markPattern_1 (fun v1 => ?_)
  refine vv_sipush (pc := 4) X (by decide) dX9_markPattern_4 ?_
  refine vv_iconst (pc := 7) X dX9_markPattern_7 ?_
  refine vv_iload_n (pc := 8) X (kf := 1) (i := 1) rfl 1 rfl dX9_markPattern_8 ?_
  refine vv_imul (pc := 9) X dX9_markPattern_9 ?_
  refine vv_iadd (pc := 10) X dX9_markPattern_10 ?_
  refine vv_iconst (pc := 11) X dX9_markPattern_11 ?_
  refine vv_iadd (pc := 12) X dX9_markPattern_12 ?_
  refine vv_iaload (pc := 13) X dX9_markPattern_13 (fun v2 => ?_)
  exact vv_iretI X rfl rfl dX9_markPattern_14
theorem m_X9_markPattern {l : Launch} (hl : l.stackTraces = false) {G : va_G} (a0 : Nat) (a1 : Int) (h : HP) : ∀ r hf, f_X9_markPattern a0 a1 h = some (r, hf) → Ct l yX9_markPattern (ws_ yX9_markPattern cX9_markPattern 2 (some .int)) 0 0 G h [.ref a0, .int (iI a1)] (jI r) hf :=
  zz_ofW hl (by decide +kernel) (lv := [(0, LR (some a0)), (1, LI a1)]) (by simp [lv_args, lvL, lvV, zz_rfc, zz_rfs, zz_ci, zz_cr, zz_cj, zz_cf, zz_cd]) (by simp [lg_sl, zz_rfc, zz_ci, zz_cr, zz_cj, zz_cf, zz_cd]) (fun _ X => A_X9_markPattern X a0 a1 h)
-- X9_patternFrom RenamedWordsModel.patternFrom(I)I
noncomputable def f_X9_patternFrom (a1 : Int) (h : HP) : Option ((Int) × HP) :=
  some (((216 + (30 * a1)) + 10), h)
theorem A_X9_patternFrom {M : hp_M} {G : va_G} {h0 : HP} (X : hp_X M G h0 "RenamedWordsModel" "patternFrom" cX9_patternFrom 1 (some .int) [] 0 0) (a1 : Int) (h : HP) : vv M G h0 1 (hp_End M G h0) jI h 0 [(0, LI a1)] [] (f_X9_patternFrom a1 h) := by
  unfold f_X9_patternFrom
  refine vv_sipush (pc := 0) X (by decide) dX9_patternFrom_0 ?_
  refine vv_bipush (pc := 3) X (by decide) dX9_patternFrom_3 ?_
  refine vv_iload_n (pc := 5) X (kf := 0) (i := 0) rfl 0 rfl dX9_patternFrom_5 ?_
  refine vv_imul (pc := 6) X dX9_patternFrom_6 ?_
  refine vv_iadd (pc := 7) X dX9_patternFrom_7 ?_
  refine vv_bipush (pc := 8) X (by decide) dX9_patternFrom_8 ?_
  refine vv_iadd (pc := 10) X dX9_patternFrom_10 ?_
  exact vv_iretI X rfl rfl dX9_patternFrom_11
theorem m_X9_patternFrom {l : Launch} (hl : l.stackTraces = false) {G : va_G} (a1 : Int) (h : HP) : ∀ r hf, f_X9_patternFrom a1 h = some (r, hf) → Ct l yX9_patternFrom (ws_ yX9_patternFrom cX9_patternFrom 1 (some .int)) 0 0 G h [.int (iI a1)] (jI r) hf :=
  zz_ofW hl (by decide +kernel) (lv := [(0, LI a1)]) (by simp [lv_args, lvL, lvV, zz_rfc, zz_rfs, zz_ci, zz_cr, zz_cj, zz_cf, zz_cd]) (by simp [lg_sl, zz_rfc, zz_ci, zz_cr, zz_cj, zz_cf, zz_cd]) (fun _ X => A_X9_patternFrom X a1 h)
-- X9_textFrom RenamedWordsModel.textFrom(I)I
noncomputable def f_X9_textFrom (a1 : Int) (h : HP) : Option ((Int) × HP) :=
  some ((16 + a1), h)
theorem A_X9_textFrom {M : hp_M} {G : va_G} {h0 : HP} (X : hp_X M G h0 "RenamedWordsModel" "textFrom" cX9_textFrom 1 (some .int) [] 0 0) (a1 : Int) (h : HP) : vv M G h0 1 (hp_End M G h0) jI h 0 [(0, LI a1)] [] (f_X9_textFrom a1 h) := by
  unfold f_X9_textFrom
  refine vv_bipush (pc := 0) X (by decide) dX9_textFrom_0 ?_
  refine vv_iload_n (pc := 2) X (kf := 0) (i := 0) rfl 0 rfl dX9_textFrom_2 ?_
  refine vv_iadd (pc := 3) X dX9_textFrom_3 ?_
  exact vv_iretI X rfl rfl dX9_textFrom_4
theorem m_X9_textFrom {l : Launch} (hl : l.stackTraces = false) {G : va_G} (a1 : Int) (h : HP) : ∀ r hf, f_X9_textFrom a1 h = some (r, hf) → Ct l yX9_textFrom (ws_ yX9_textFrom cX9_textFrom 1 (some .int)) 0 0 G h [.int (iI a1)] (jI r) hf :=
  zz_ofW hl (by decide +kernel) (lv := [(0, LI a1)]) (by simp [lv_args, lvL, lvV, zz_rfc, zz_rfs, zz_ci, zz_cr, zz_cj, zz_cf, zz_cd]) (by simp [lg_sl, zz_rfc, zz_ci, zz_cr, zz_cj, zz_cf, zz_cd]) (fun _ X => A_X9_textFrom X a1 h)
-- X9_of RenamedWordsModel.of(II)I
noncomputable def f_X9_of (a0 : Nat) (a1 : Int) (a2 : Int) (h : HP) : Option ((Int) × HP) :=
  (rdR h (some a0) [7] 0).bind fun v1 =>
  (aldI h .int v1 ((216 + (30 * a1)) + a2)).bind fun v2 =>
  some (v2, h)
theorem A_X9_of {M : hp_M} {G : va_G} {h0 : HP} (X : hp_X M G h0 "RenamedWordsModel" "of" cX9_of 3 (some .int) [] 0 0) (a0 : Nat) (a1 : Int) (a2 : Int) (h : HP) : vv M G h0 3 (hp_End M G h0) jI h 0 [(0, LR (some a0)), (1, LI a1), (2, LI a2)] [] (f_X9_of a0 a1 a2 h) := by
  unfold f_X9_of
  refine vv_aload_n (pc := 0) X (kf := 0) (i := 0) rfl 0 rfl dX9_of_0 ?_
  refine vv_getR (pc := 1) X (fun _ z => by cases List.mem_singleton.mp z; exact fl_X9_9_7) dX9_of_1 (fun v1 => ?_)
  refine vv_sipush (pc := 4) X (by decide) dX9_of_4 ?_
  refine vv_bipush (pc := 7) X (by decide) dX9_of_7 ?_
  refine vv_iload_n (pc := 9) X (kf := 1) (i := 1) rfl 1 rfl dX9_of_9 ?_
  refine vv_imul (pc := 10) X dX9_of_10 ?_
  refine vv_iadd (pc := 11) X dX9_of_11 ?_
  refine vv_iload_n (pc := 12) X (kf := 2) (i := 2) rfl 2 rfl dX9_of_12 ?_
  refine vv_iadd (pc := 13) X dX9_of_13 ?_
  refine vv_iaload (pc := 14) X dX9_of_14 (fun v2 => ?_)
  exact vv_iretI X rfl rfl dX9_of_15
theorem m_X9_of {l : Launch} (hl : l.stackTraces = false) {G : va_G} (a0 : Nat) (a1 : Int) (a2 : Int) (h : HP) : ∀ r hf, f_X9_of a0 a1 a2 h = some (r, hf) → Ct l yX9_of (ws_ yX9_of cX9_of 3 (some .int)) 0 0 G h [.ref a0, .int (iI a1), .int (iI a2)] (jI r) hf :=
  zz_ofW hl (by decide +kernel) (lv := [(0, LR (some a0)), (1, LI a1), (2, LI a2)]) (by simp [lv_args, lvL, lvV, zz_rfc, zz_rfs, zz_ci, zz_cr, zz_cj, zz_cf, zz_cd]) (by simp [lg_sl, zz_rfc, zz_ci, zz_cr, zz_cj, zz_cf, zz_cd]) (fun _ X => A_X9_of X a0 a1 a2 h)
-- X9_isFirm RenamedWordsModel.isFirm(I)Z
noncomputable def b_X9_isFirm_15 (s0 : Int) (h : HP) : Option ((Int) × HP) :=
  rtZ s0 (some (s0, h))
theorem B_X9_isFirm_15 {M : hp_M} {G : va_G} {h0 : HP} (X : hp_X M G h0 "RenamedWordsModel" "isFirm" cX9_isFirm 2 (some .boolean) [] 0 0) (s0 : Int) (h : HP) : vv M G h0 2 (hp_End M G h0) jI h 15 [] [LI s0] (b_X9_isFirm_15 s0 h) := by
  unfold b_X9_isFirm_15
  exact vv_iretZ X rfl rfl dX9_isFirm_15
noncomputable def f_X9_isFirm (a0 : Nat) (a1 : Int) (h : HP) : Option ((Int) × HP) :=
  (rdR h (some a0) [7] 0).bind fun v1 =>
  (aldI h .int v1 0).bind fun v2 =>
  iLE v2 a1
    (b_X9_isFirm_15 0 h)
    (b_X9_isFirm_15 1 h)
theorem A_X9_isFirm {M : hp_M} {G : va_G} {h0 : HP} (X : hp_X M G h0 "RenamedWordsModel" "isFirm" cX9_isFirm 2 (some .boolean) [] 0 0) (a0 : Nat) (a1 : Int) (h : HP) : vv M G h0 2 (hp_End M G h0) jI h 0 [(0, LR (some a0)), (1, LI a1)] [] (f_X9_isFirm a0 a1 h) := by
  unfold f_X9_isFirm
  refine vv_iload_n (pc := 0) X (kf := 1) (i := 1) rfl 1 rfl dX9_isFirm_0 ?_
  refine vv_aload_n (pc := 1) X (kf := 0) (i := 0) rfl 0 rfl dX9_isFirm_1 ?_
  refine vv_getR (pc := 2) X (fun _ z => by cases List.mem_singleton.mp z; exact fl_X9_9_7) dX9_isFirm_2 (fun v1 => ?_)
  refine vv_iconst (pc := 5) X dX9_isFirm_5 ?_
  refine vv_iaload (pc := 6) X dX9_isFirm_6 (fun v2 => ?_)
  refine vv_icmp_ge (pc := 7) (tgt := 14) X dX9_isFirm_7 rfl ?_ ?_
  · refine vv_iconst (pc := 14) X dX9_isFirm_14 ?_
    exact vv_sub [] (by rfl) (B_X9_isFirm_15 X _ _)
  · refine vv_iconst (pc := 10) X dX9_isFirm_10 ?_
    refine vv_goto (pc := 11) (tgt := 15) X dX9_isFirm_11 rfl ?_
    exact vv_sub [] (by rfl) (B_X9_isFirm_15 X _ _)
theorem m_X9_isFirm {l : Launch} (hl : l.stackTraces = false) {G : va_G} (a0 : Nat) (a1 : Int) (h : HP) : ∀ r hf, f_X9_isFirm a0 a1 h = some (r, hf) → Ct l yX9_isFirm (ws_ yX9_isFirm cX9_isFirm 2 (some .boolean)) 0 0 G h [.ref a0, .int (iI a1)] (jI r) hf :=
  zz_ofW hl (by decide +kernel) (lv := [(0, LR (some a0)), (1, LI a1)]) (by simp [lv_args, lvL, lvV, zz_rfc, zz_rfs, zz_ci, zz_cr, zz_cj, zz_cf, zz_cd]) (by simp [lg_sl, zz_rfc, zz_ci, zz_cr, zz_cj, zz_cf, zz_cd]) (fun _ X => A_X9_isFirm X a0 a1 h)
