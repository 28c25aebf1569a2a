/-! STAGE 1c: functions and contracts (printed by gen/mkfuncs.py). -/
set_option maxRecDepth 100000
set_option linter.unusedVariables false
-- X2_why RenamedWords$Desk.why(II)I
noncomputable def b_X2_why_71 (h : HP) : Option ((Int) × HP) :=
  some (2, h)
theorem B_X2_why_71 {M : hp_M} {G : va_G} {h0 : HP} (X : hp_X M G h0 "RenamedWords$Desk" "why" cX2_why 7 (some .int) [] 7 215) (h : HP) : vv M G h0 7 (hp_End M G h0) jI h 71 [] [] (b_X2_why_71 h) := by
  unfold b_X2_why_71
  refine vv_iconst (pc := 71) X dX2_why_71 ?_
  exact vv_iretI X rfl rfl dX2_why_72
noncomputable def b_X2_why_119 (s0 : Int) (h : HP) : Option ((Int) × HP) :=
  some (s0, h)
theorem B_X2_why_119 {M : hp_M} {G : va_G} {h0 : HP} (X : hp_X M G h0 "RenamedWords$Desk" "why" cX2_why 7 (some .int) [] 7 215) (s0 : Int) (h : HP) : vv M G h0 7 (hp_End M G h0) jI h 119 [] [LI s0] (b_X2_why_119 s0 h) := by
  unfold b_X2_why_119
  exact vv_iretI X rfl rfl dX2_why_119
noncomputable def f_X2_why (a0 : Nat) (a1 : Int) (a2 : Int) (h : HP) : Option ((Int) × HP) :=
  (rdR h (some a0) [1] 2).bind fun v1 =>
  (aldR h "RenamedWords$Word" v1 a1).bind fun v2 =>
  (rcv h (some a0) [1]).bind fun b5 =>
  hb (f_X2_longest b5 a1 a2 h) fun v3 h4 =>
  (rcv h4 v2 [11]).bind fun b9 =>
  hb (f_X14_many b9 h4) fun v7 h8 =>
  iEQ v3 v7
    (some (0, h8))
    ((rdR h8 (some a0) [1] 0).bind fun v11 =>
    (rdI h8 v11 [3] 3).bind fun v12 =>
    iEQ (a2 + v3) v12
      (some (1, h8))
      ((rdI h8 (some a0) [1] 7).bind fun v13 =>
      (rcv h8 v2 [11]).bind fun b16 =>
      hb (f_X4_isFirm_2 b16 v3 v13 h8) fun v14 h15 =>
      iEQ v14 0
        ((rdR h15 (some a0) [1] 5).bind fun v18 =>
        (rdI h15 (some a0) [1] 7).bind fun v19 =>
        (rcv h15 v18 [5]).bind fun b22 =>
        hb (f_X4_isFirm_2 b22 v3 v19 h15) fun v20 h21 =>
        iEQ v20 0
          ((rdI h21 (some a0) [1] 7).bind fun v24 =>
          (rcv h21 v2 [11]).bind fun b27 =>
          hb (f_X14_back b27 v3 v24 h21) fun v25 h26 =>
          (rdR h26 (some a0) [1] 5).bind fun v29 =>
          (rdI h26 (some a0) [1] 7).bind fun v30 =>
          (rcv h26 v29 [5]).bind fun b33 =>
          hb (f_X7_back b33 v3 v30 h26) fun v31 h32 =>
          iEQ v25 0
            (b_X2_why_119 3 h32)
            (iEQ v31 0
              (b_X2_why_119 4 h32)
              (b_X2_why_119 5 h32)))
          (b_X2_why_71 h21))
        (b_X2_why_71 h15)))
theorem A_X2_why {M : hp_M} {G : va_G} {h0 : HP} (X : hp_X M G h0 "RenamedWords$Desk" "why" cX2_why 7 (some .int) [] 7 215) (a0 : Nat) (a1 : Int) (a2 : Int) (h : HP) : vv M G h0 7 (hp_End M G h0) jI h 0 [(0, LR (some a0)), (1, LI a1), (2, LI a2)] [] (f_X2_why a0 a1 a2 h) := by
  unfold f_X2_why
  refine vv_aload_n (pc := 0) X (kf := 0) (i := 0) rfl 0 rfl dX2_why_0 ?_
  refine vv_getR (pc := 1) X (fun _ z => by cases List.mem_singleton.mp z; exact fl_X2_20_1) dX2_why_1 (fun v1 => ?_)
  refine vv_iload_n (pc := 4) X (kf := 1) (i := 1) rfl 1 rfl dX2_why_4 ?_
  refine vv_aaload (pc := 5) X dX2_why_5 (fun v2 => ?_)
  refine vv_astore_n (pc := 6) (lv' := [(3, LR v2), (0, LR (some a0)), (1, LI a1), (2, LI a2)]) X (kf := 3) (i := 3) rfl (by decide) rfl dX2_why_6 ?_
  refine vv_aload_n (pc := 7) X (kf := 0) (i := 0) rfl 1 rfl dX2_why_7 ?_
  refine vv_iload_n (pc := 8) X (kf := 1) (i := 1) rfl 2 rfl dX2_why_8 ?_
  refine vv_iload_n (pc := 9) X (kf := 2) (i := 2) rfl 3 rfl dX2_why_9 ?_
  refine vv_rcv (fun b5 t9 c9 fs9 e6 g9 k9 => ?_)
  cases List.mem_singleton.mp k9
  refine vv_callI (pc := 10) (rest := []) (by rw [e6]; rfl) (fun r8 k8 e8 => zz_callV X (m_X2_longest (hlM X) _ _ _ _ _ _ e8) g9 rfl rfl q3216 q3217 q3218 q133 q3219 nh_X2 rfl (by decide) (by decide) (Nat.le_of_ble_eq_true rfl) dX2_why_10) (fun v3 h4 => ?_)
  refine vv_istore (pc := 13) (lv' := [(4, LI v3), (3, LR v2), (0, LR (some a0)), (1, LI a1), (2, LI a2)]) X (by decide) rfl dX2_why_13 ?_
  refine vv_iload (pc := 15) X 0 rfl dX2_why_15 ?_
  refine vv_aload_n (pc := 17) X (kf := 3) (i := 3) rfl 1 rfl dX2_why_17 ?_
  refine vv_rcv (fun b9 t9 c9 fs9 e10 g9 k9 => ?_)
  cases List.mem_singleton.mp k9
  refine vv_callI (pc := 18) (rest := [LI v3]) (by rw [e10]; rfl) (fun r8 k8 e8 => zz_callV X (m_X14_many (hlM X) _ _ _ _ e8) g9 rfl rfl q2600 q2601 q2602 q174 q2603 nh_X14 rfl (by decide) (by decide) (Nat.le_of_ble_eq_true rfl) dX2_why_18) (fun v7 h8 => ?_)
  refine vv_icmp_ne (pc := 21) (tgt := 26) X dX2_why_21 rfl ?_ ?_
  · refine vv_iload_n (pc := 26) X (kf := 2) (i := 2) rfl 4 rfl dX2_why_26 ?_
    refine vv_iload (pc := 27) X 0 rfl dX2_why_27 ?_
    refine vv_iadd (pc := 29) X dX2_why_29 ?_
    refine vv_aload_n (pc := 30) X (kf := 0) (i := 0) rfl 2 rfl dX2_why_30 ?_
    refine vv_getR (pc := 31) X (fun _ z => by cases List.mem_singleton.mp z; exact fl_X2_12_1) dX2_why_31 (fun v11 => ?_)
    refine vv_getI (pc := 34) X (fun _ z => by cases List.mem_singleton.mp z; exact fl_X2_123_3) dX2_why_34 (fun v12 => ?_)
    refine vv_icmp_ne (pc := 37) (tgt := 42) X dX2_why_37 rfl ?_ ?_
    · refine vv_aload_n (pc := 42) X (kf := 3) (i := 3) rfl 1 rfl dX2_why_42 ?_
      refine vv_iload (pc := 43) X 0 rfl dX2_why_43 ?_
      refine vv_aload_n (pc := 45) X (kf := 0) (i := 0) rfl 2 rfl dX2_why_45 ?_
      refine vv_getI (pc := 46) X (fun _ z => by cases List.mem_singleton.mp z; exact fl_X2_108_1) dX2_why_46 (fun v13 => ?_)
      refine vv_rcv (fun b16 t9 c9 fs9 e17 g9 k9 => ?_)
      cases List.mem_singleton.mp k9
      refine vv_callI (pc := 49) (rest := []) (by rw [e17]; rfl) (fun r8 k8 e8 => zz_callU X (m_X4_isFirm_2 (hlM X) _ _ _ _ _ _ e8) g9 rfl q3221 q2662 (va_Decl.of (X.1.2.2.2.2 _ q2625) (X.1.2.2.2.2 _ q2630)) (by decide) q2625 q2664 q156 q2630 rfl (by decide) (by decide) (Nat.le_of_ble_eq_true rfl) dX2_why_49) (fun v14 h15 => ?_)
      refine vv_if_ne (pc := 52) (tgt := 71) X dX2_why_52 rfl ?_ ?_
      · exact vv_sub [] (by rfl) (B_X2_why_71 X _)
      · refine vv_aload_n (pc := 55) X (kf := 0) (i := 0) rfl 2 rfl dX2_why_55 ?_
        refine vv_getR (pc := 56) X (fun _ z => by cases List.mem_singleton.mp z; exact fl_X2_38_1) dX2_why_56 (fun v18 => ?_)
        refine vv_iload (pc := 59) X 0 rfl dX2_why_59 ?_
        refine vv_aload_n (pc := 61) X (kf := 0) (i := 0) rfl 2 rfl dX2_why_61 ?_
        refine vv_getI (pc := 62) X (fun _ z => by cases List.mem_singleton.mp z; exact fl_X2_108_1) dX2_why_62 (fun v19 => ?_)
        refine vv_rcv (fun b22 t9 c9 fs9 e23 g9 k9 => ?_)
        cases List.mem_singleton.mp k9
        refine vv_callI (pc := 65) (rest := []) (by rw [e23]; rfl) (fun r8 k8 e8 => zz_callU X (m_X4_isFirm_2 (hlM X) _ _ _ _ _ _ e8) g9 rfl q3222 q3223 (va_Decl.of (X.1.2.2.2.2 _ q2625) (X.1.2.2.2.2 _ q2630)) (by decide) q2625 q3224 q156 q2630 rfl (by decide) (by decide) (Nat.le_of_ble_eq_true rfl) dX2_why_65) (fun v20 h21 => ?_)
        refine vv_if_eq (pc := 68) (tgt := 73) X dX2_why_68 rfl ?_ ?_
        · refine vv_aload_n (pc := 73) X (kf := 3) (i := 3) rfl 1 rfl dX2_why_73 ?_
          refine vv_iload (pc := 74) X 0 rfl dX2_why_74 ?_
          refine vv_aload_n (pc := 76) X (kf := 0) (i := 0) rfl 2 rfl dX2_why_76 ?_
          refine vv_getI (pc := 77) X (fun _ z => by cases List.mem_singleton.mp z; exact fl_X2_108_1) dX2_why_77 (fun v24 => ?_)
          refine vv_rcv (fun b27 t9 c9 fs9 e28 g9 k9 => ?_)
          cases List.mem_singleton.mp k9
          refine vv_callI (pc := 80) (rest := []) (by rw [e28]; rfl) (fun r8 k8 e8 => zz_callV X (m_X14_back (hlM X) _ _ _ _ _ _ e8) g9 rfl rfl q3225 q2659 q4119 q174 q2660 nh_X14 rfl (by decide) (by decide) (Nat.le_of_ble_eq_true rfl) dX2_why_80) (fun v25 h26 => ?_)
          refine vv_istore (pc := 83) (lv' := [(5, LI v25), (4, LI v3), (3, LR v2), (0, LR (some a0)), (1, LI a1), (2, LI a2)]) X (by decide) rfl dX2_why_83 ?_
          refine vv_aload_n (pc := 85) X (kf := 0) (i := 0) rfl 3 rfl dX2_why_85 ?_
          refine vv_getR (pc := 86) X (fun _ z => by cases List.mem_singleton.mp z; exact fl_X2_38_1) dX2_why_86 (fun v29 => ?_)
          refine vv_iload (pc := 89) X 1 rfl dX2_why_89 ?_
          refine vv_aload_n (pc := 91) X (kf := 0) (i := 0) rfl 3 rfl dX2_why_91 ?_
          refine vv_getI (pc := 92) X (fun _ z => by cases List.mem_singleton.mp z; exact fl_X2_108_1) dX2_why_92 (fun v30 => ?_)
          refine vv_rcv (fun b33 t9 c9 fs9 e34 g9 k9 => ?_)
          cases List.mem_singleton.mp k9
          refine vv_callI (pc := 95) (rest := []) (by rw [e34]; rfl) (fun r8 k8 e8 => zz_callV X (m_X7_back (hlM X) _ _ _ _ _ _ e8) g9 rfl rfl q3226 q2656 q4117 q159 q2657 nh_X7 rfl (by decide) (by decide) (Nat.le_of_ble_eq_true rfl) dX2_why_95) (fun v31 h32 => ?_)
          refine vv_istore (pc := 98) (lv' := [(6, LI v31), (5, LI v25), (4, LI v3), (3, LR v2), (0, LR (some a0)), (1, LI a1), (2, LI a2)]) X (by decide) rfl dX2_why_98 ?_
          refine vv_iload (pc := 100) X 1 rfl dX2_why_100 ?_
          refine vv_if_ne (pc := 102) (tgt := 109) X dX2_why_102 rfl ?_ ?_
          · refine vv_iload (pc := 109) X 0 rfl dX2_why_109 ?_
            refine vv_if_ne (pc := 111) (tgt := 118) X dX2_why_111 rfl ?_ ?_
            · refine vv_iconst (pc := 118) X dX2_why_118 ?_
              exact vv_sub [] (by rfl) (B_X2_why_119 X _ _)
            · refine vv_iconst (pc := 114) X dX2_why_114 ?_
              refine vv_goto (pc := 115) (tgt := 119) X dX2_why_115 rfl ?_
              exact vv_sub [] (by rfl) (B_X2_why_119 X _ _)
          · refine vv_iconst (pc := 105) X dX2_why_105 ?_
            refine vv_goto (pc := 106) (tgt := 119) X dX2_why_106 rfl ?_
            exact vv_sub [] (by rfl) (B_X2_why_119 X _ _)
        · exact vv_sub [] (by rfl) (B_X2_why_71 X _)
    · refine vv_iconst (pc := 40) X dX2_why_40 ?_
      exact vv_iretI X rfl rfl dX2_why_41
  · refine vv_iconst (pc := 24) X dX2_why_24 ?_
    exact vv_iretI X rfl rfl dX2_why_25
theorem m_X2_why {l : Launch} (hl : l.stackTraces = false) {G : va_G} (a0 : Nat) (a1 : Int) (a2 : Int) (h : HP) : ∀ r hf, f_X2_why a0 a1 a2 h = some (r, hf) → Ct l yX2_why (ws_ yX2_why cX2_why 7 (some .int)) 7 215 G h [.ref a0, .int (iI a1), .int (iI a2)] (jI r) hf :=
  zz_ofW hl (by decide +kernel) (lv := [(0, LR (some a0)), (1, LI a1), (2, LI a2)]) (by simp [lv_args, lvL, lvV, zz_rfc, zz_rfs, zz_ci, zz_cr, zz_cj, zz_cf, zz_cd]) (by simp [lg_sl, zz_rfc, zz_ci, zz_cr, zz_cj, zz_cf, zz_cd]) (fun _ X => A_X2_why X a0 a1 a2 h)
-- X1_why RenamedWords.why(II)I
noncomputable def f_X1_why (a0 : Nat) (a1 : Int) (a2 : Int) (h : HP) : Option ((Nat ⊕ Int) × HP) :=
  (rcv h (some a0) [0]).bind fun b3 =>
  hbx (f_X1_at b3 a1 a2 h) (fun q5 h6 =>
      some (.inl q5, h6)) fun _ h2 =>
  (rdR h2 (some a0) [0] 0).bind fun v7 =>
  (rcv h2 v7 [1]).bind fun b10 =>
  hb (f_X2_why b10 a1 a2 h2) fun v8 h9 =>
  some (.inr v8, h9)
theorem A_X1_why {M : hp_M} {G : va_G} {h0 : HP} (X : hp_X M G h0 "RenamedWords" "why" cX1_why 3 (some .int) [] 9 249) (a0 : Nat) (a1 : Int) (a2 : Int) (h : HP) : vv M G h0 3 (hp_End M G h0) xI h 0 [(0, LR (some a0)), (1, LI a1), (2, LI a2)] [] (f_X1_why a0 a1 a2 h) := by
  unfold f_X1_why
  refine vv_aload_n (pc := 0) X (kf := 0) (i := 0) rfl 0 rfl dX1_why_0 ?_
  refine vv_iload_n (pc := 1) X (kf := 1) (i := 1) rfl 1 rfl dX1_why_1 ?_
  refine vv_iload_n (pc := 2) X (kf := 2) (i := 2) rfl 2 rfl dX1_why_2 ?_
  refine vv_rcv (fun b3 t9 c9 fs9 e4 g9 k9 => ?_)
  cases List.mem_singleton.mp k9
  refine vv_xallV (pc := 3) (rest := []) (by rw [e4]; rfl) (fun r8 k8 e8 => zz_callV X (m_X1_at (hlM X) _ _ _ _ _ _ e8) g9 rfl rfl q3200 q3202 qs48 q132 q3203 nh_X1 rfl (by decide) (by decide) (Nat.le_of_ble_eq_true rfl) dX1_why_3) (fun v1 h2 => ?_) (fun q5 h6 => ?_)
  · refine vv_aload_n (pc := 6) X (kf := 0) (i := 0) rfl 0 rfl dX1_why_6 ?_
    refine vv_getR (pc := 7) X (fun _ z => by cases List.mem_singleton.mp z; exact fl_X1_35_0) dX1_why_7 (fun v7 => ?_)
    refine vv_iload_n (pc := 10) X (kf := 1) (i := 1) rfl 1 rfl dX1_why_10 ?_
    refine vv_iload_n (pc := 11) X (kf := 2) (i := 2) rfl 2 rfl dX1_why_11 ?_
    refine vv_rcv (fun b10 t9 c9 fs9 e11 g9 k9 => ?_)
    cases List.mem_singleton.mp k9
    refine vv_callI (pc := 12) (rest := []) (by rw [e11]; rfl) (fun r8 k8 e8 => zz_callV X (m_X2_why (hlM X) _ _ _ _ _ _ e8) g9 rfl rfl q3212 q3213 q3214 q133 q3215 nh_X2 rfl (by decide) (by decide) (Nat.le_of_ble_eq_true rfl) dX1_why_12) (fun v8 h9 => ?_)
    exact vv_iretI X rfl rfl dX1_why_15
  · exact vvx_out X (by decide) rfl
theorem m_X1_why {l : Launch} (hl : l.stackTraces = false) {G : va_G} (a0 : Nat) (a1 : Int) (a2 : Int) (h : HP) : ∀ r hf, f_X1_why a0 a1 a2 h = some (r, hf) → Ct l yX1_why (ws_ yX1_why cX1_why 3 (some .int)) 9 249 G h [.ref a0, .int (iI a1), .int (iI a2)] (xI r) hf :=
  zz_ofW hl (by decide +kernel) (lv := [(0, LR (some a0)), (1, LI a1), (2, LI a2)]) (by simp [lv_args, lvL, lvV, zz_rfc, zz_rfs, zz_ci, zz_cr, zz_cj, zz_cf, zz_cd]) (by simp [lg_sl, zz_rfc, zz_ci, zz_cr, zz_cj, zz_cf, zz_cd]) (fun _ X => A_X1_why X a0 a1 a2 h)
-- X0_why RenamedWordsLaw.why(LRenamedWords;II[J)I
noncomputable def b_X0_why_13 (s0 : Option Nat) (h : HP) : Option ((Int) × HP) :=
  some (1, h)
theorem B_X0_why_13 {M : hp_M} {G : va_G} {h0 : HP} (X : hp_X M G h0 "RenamedWordsLaw" "why" cX0_why 5 (some .int) (tableOf [(0, 10, 13, 18)]) 10 279) (s0 : Option Nat) (h : HP) : vv M G h0 5 (hp_End M G h0) jI h 13 [] [LR s0] (b_X0_why_13 s0 h) := by
  unfold b_X0_why_13
  refine vv_astore (pc := 13) (lv' := [(4, LR s0)]) X (by decide) rfl dX0_why_13 ?_
  refine vv_iconst (pc := 15) X dX0_why_15 ?_
  exact vv_iretI X rfl rfl dX0_why_16
noncomputable def f_X0_why (a1 : Option Nat) (a2 : Int) (a3 : Int) (a4 : Option Nat) (h : HP) : Option ((Int) × HP) :=
  (rcv h a1 [0]).bind fun b3 =>
  hbx (f_X1_why b3 a2 a3 h) (fun q5 h6 =>
      (clsOf h6 q5).bind fun c7 =>
      if c7 = 35 then
        b_X0_why_13 (some q5) h6
      else
        none) fun v1 h2 =>
  (astJ h2 a4 0 (iL v1)).bind fun h8 =>
  some (0, h8)
theorem A_X0_why {M : hp_M} {G : va_G} {h0 : HP} (X : hp_X M G h0 "RenamedWordsLaw" "why" cX0_why 5 (some .int) (tableOf [(0, 10, 13, 18)]) 10 279) (a1 : Option Nat) (a2 : Int) (a3 : Int) (a4 : Option Nat) (h : HP) : vv M G h0 5 (hp_End M G h0) jI h 0 [(0, LR a1), (1, LI a2), (2, LI a3), (3, LR a4)] [] (f_X0_why a1 a2 a3 a4 h) := by
  unfold f_X0_why
  refine vv_aload_n (pc := 0) X (kf := 3) (i := 3) rfl 3 rfl dX0_why_0 ?_
  refine vv_iconst (pc := 1) X dX0_why_1 ?_
  refine vv_aload_n (pc := 2) X (kf := 0) (i := 0) rfl 0 rfl dX0_why_2 ?_
  refine vv_iload_n (pc := 3) X (kf := 1) (i := 1) rfl 1 rfl dX0_why_3 ?_
  refine vv_iload_n (pc := 4) X (kf := 2) (i := 2) rfl 2 rfl dX0_why_4 ?_
  refine vv_rcv (fun b3 t9 c9 fs9 e4 g9 k9 => ?_)
  cases List.mem_singleton.mp k9
  refine vv_xallI (pc := 5) (rest := [LI 0, LR a4]) (by rw [e4]; rfl) (fun r8 k8 e8 => zz_callV X (m_X1_why (hlM X) _ _ _ _ _ _ e8) g9 rfl rfl q3208 q3209 q3210 q132 q3211 nh_X1 rfl (by decide) (by decide) (Nat.le_of_ble_eq_true rfl) dX0_why_5) (fun v1 h2 => ?_) (fun q5 h6 => ?_)
  · refine vv_i2l (pc := 8) X dX0_why_8 ?_
    refine vv_lastore (pc := 9) X dX0_why_9 (fun h8 => ?_)
    refine vv_goto (pc := 10) (tgt := 17) X dX0_why_10 rfl ?_
    refine vv_iconst (pc := 17) X dX0_why_17 ?_
    exact vv_iretI X rfl rfl dX0_why_18
  · refine vvx_cls (fun _ c7 _ g9 => ?_)
    refine vvx_if (fun e9 => ?_) (fun _ => ?_)
    · subst e9
      refine vvx_catch X g9 rfl [] ⟨0, 10, 13, 18⟩ [] rfl (fun z hz => nomatch hz) rfl (by decide) q3041 q2274 ?_
      exact vv_sub [] (by rfl) (B_X0_why_13 X _ _)
    · exact vvx_none
theorem m_X0_why {l : Launch} (hl : l.stackTraces = false) {G : va_G} (a1 : Option Nat) (a2 : Int) (a3 : Int) (a4 : Option Nat) (h : HP) : ∀ r hf, f_X0_why a1 a2 a3 a4 h = some (r, hf) → Ct l yX0_why (wsW_ yX0_why cX0_why 5 (some .int) [(0, 10, 13, 18)]) 10 279 G h [va_rf a1, .int (iI a2), .int (iI a3), va_rf a4] (jI r) hf :=
  zz_ofWH hl (by decide +kernel) (lv := [(0, LR a1), (1, LI a2), (2, LI a3), (3, LR a4)]) (by simp [lv_args, lvL, lvV, zz_rfc, zz_rfs, zz_ci, zz_cr, zz_cj, zz_cf, zz_cd]) (by simp [lg_sl, zz_rfc, zz_ci, zz_cr, zz_cj, zz_cf, zz_cd]) (fun _ X => A_X0_why X a1 a2 a3 a4 h)
-- X9_why RenamedWordsModel.why(II)I
noncomputable def b_X9_why_81 (h : HP) : Option ((Int) × HP) :=
  some (2, h)
theorem B_X9_why_81 {M : hp_M} {G : va_G} {h0 : HP} (X : hp_X M G h0 "RenamedWordsModel" "why" cX9_why 6 (some .int) [] 5 153) (h : HP) : vv M G h0 6 (hp_End M G h0) jI h 81 [] [] (b_X9_why_81 h) := by
  unfold b_X9_why_81
  refine vv_iconst (pc := 81) X dX9_why_81 ?_
  exact vv_iretI X rfl rfl dX9_why_82
noncomputable def b_X9_why_102 (s0 : Int) (h : HP) : Option ((Int) × HP) :=
  some (s0, h)
theorem B_X9_why_102 {M : hp_M} {G : va_G} {h0 : HP} (X : hp_X M G h0 "RenamedWordsModel" "why" cX9_why 6 (some .int) [] 5 153) (s0 : Int) (h : HP) : vv M G h0 6 (hp_End M G h0) jI h 102 [] [LI s0] (b_X9_why_102 s0 h) := by
  unfold b_X9_why_102
  exact vv_iretI X rfl rfl dX9_why_102
noncomputable def f_X9_why (a0 : Nat) (a1 : Int) (a2 : Int) (h : HP) : Option ((Int) × HP) :=
  (wrI h (some a0) [7] 7 0).bind fun h1 =>
  (rcv h1 (some a0) [7]).bind fun b4 =>
  hb (f_X9_noThere b4 a1 a2 h1) fun v2 h3 =>
  iEQ v2 0
    ((rcv h3 (some a0) [7]).bind fun b8 =>
    hb (f_X9_matched b8 a1 a2 h3) fun v6 h7 =>
    (rcv h7 (some a0) [7]).bind fun b12 =>
    hb (f_X9_of b12 a1 0 h7) fun v10 h11 =>
    iEQ v6 v10
      (some (0, h11))
      ((rdR h11 (some a0) [7] 0).bind fun v14 =>
      (aldI h11 .int v14 1).bind fun v15 =>
      iEQ (a2 + v6) v15
        (some (1, h11))
        (hb (f_X9_patternFrom a1 h11) fun v16 h17 =>
        (rcv h17 (some a0) [7]).bind fun b20 =>
        hb (f_X9_signOf b20 v16 v6 h17) fun v18 h19 =>
        hb (f_X9_textFrom a2 h19) fun v22 h23 =>
        (rcv h23 (some a0) [7]).bind fun b26 =>
        hb (f_X9_signOf b26 v22 v6 h23) fun v24 h25 =>
        iLT v18 0
          (b_X9_why_81 h25)
          (iLE 0 v24
            (iEQ v18 0
              (b_X9_why_102 3 h25)
              (iEQ v24 0
                (b_X9_why_102 4 h25)
                (b_X9_why_102 5 h25)))
            (b_X9_why_81 h25)))))
    (some (0, h3))
theorem A_X9_why {M : hp_M} {G : va_G} {h0 : HP} (X : hp_X M G h0 "RenamedWordsModel" "why" cX9_why 6 (some .int) [] 5 153) (a0 : Nat) (a1 : Int) (a2 : Int) (h : HP) : vv M G h0 6 (hp_End M G h0) jI h 0 [(0, LR (some a0)), (1, LI a1), (2, LI a2)] [] (f_X9_why a0 a1 a2 h) := by
  unfold f_X9_why
  refine vv_aload_n (pc := 0) X (kf := 0) (i := 0) rfl 0 rfl dX9_why_0 ?_
  refine vv_iconst (pc := 1) X dX9_why_1 ?_
  refine vv_putI (pc := 2) (fin := false) X (fun _ z => by cases List.mem_singleton.mp z; exact fl_X9_69_7) (fun z => nomatch z) (fun z => nomatch z) dX9_why_2 (fun h1 => ?_)
  refine vv_aload_n (pc := 5) X (kf := 0) (i := 0) rfl 0 rfl dX9_why_5 ?_
  refine vv_iload_n (pc := 6) X (kf := 1) (i := 1) rfl 1 rfl dX9_why_6 ?_
  refine vv_iload_n (pc := 7) X (kf := 2) (i := 2) rfl 2 rfl dX9_why_7 ?_
  refine vv_rcv (fun b4 t9 c9 fs9 e5 g9 k9 => ?_)
  cases List.mem_singleton.mp k9
  refine vv_callI (pc := 8) (rest := []) (by rw [e5]; rfl) (fun r8 k8 e8 => zz_callV X (m_X9_noThere (hlM X) _ _ _ _ _ _ e8) g9 rfl rfl q3942 q3944 qs120 q164 q3945 nh_X9 rfl (by decide) (by decide) (Nat.le_of_ble_eq_true rfl) dX9_why_8) (fun v2 h3 => ?_)
  refine vv_if_eq (pc := 11) (tgt := 16) X dX9_why_11 rfl ?_ ?_
  · refine vv_aload_n (pc := 16) X (kf := 0) (i := 0) rfl 0 rfl dX9_why_16 ?_
    refine vv_iload_n (pc := 17) X (kf := 1) (i := 1) rfl 1 rfl dX9_why_17 ?_
    refine vv_iload_n (pc := 18) X (kf := 2) (i := 2) rfl 2 rfl dX9_why_18 ?_
    refine vv_rcv (fun b8 t9 c9 fs9 e9 g9 k9 => ?_)
    cases List.mem_singleton.mp k9
    refine vv_callI (pc := 19) (rest := []) (by rw [e9]; rfl) (fun r8 k8 e8 => zz_callV X (m_X9_matched (hlM X) _ _ _ _ _ _ e8) g9 rfl rfl q3767 q3769 qs93 q164 q3770 nh_X9 rfl (by decide) (by decide) (Nat.le_of_ble_eq_true rfl) dX9_why_19) (fun v6 h7 => ?_)
    refine vv_istore_n (pc := 22) (lv' := [(3, LI v6), (0, LR (some a0)), (1, LI a1), (2, LI a2)]) X (kf := 3) (i := 3) rfl (by decide) rfl dX9_why_22 ?_
    refine vv_iload_n (pc := 23) X (kf := 3) (i := 3) rfl 0 rfl dX9_why_23 ?_
    refine vv_aload_n (pc := 24) X (kf := 0) (i := 0) rfl 1 rfl dX9_why_24 ?_
    refine vv_iload_n (pc := 25) X (kf := 1) (i := 1) rfl 2 rfl dX9_why_25 ?_
    refine vv_iconst (pc := 26) X dX9_why_26 ?_
    refine vv_rcv (fun b12 t9 c9 fs9 e13 g9 k9 => ?_)
    cases List.mem_singleton.mp k9
    refine vv_callI (pc := 27) (rest := [LI v6]) (by rw [e13]; rfl) (fun r8 k8 e8 => zz_callV X (m_X9_of (hlM X) _ _ _ _ _ _ e8) g9 rfl rfl q3777 q3779 qs94 q164 q3780 nh_X9 rfl (by decide) (by decide) (Nat.le_of_ble_eq_true rfl) dX9_why_27) (fun v10 h11 => ?_)
    refine vv_icmp_ne (pc := 30) (tgt := 35) X dX9_why_30 rfl ?_ ?_
    · refine vv_iload_n (pc := 35) X (kf := 2) (i := 2) rfl 3 rfl dX9_why_35 ?_
      refine vv_iload_n (pc := 36) X (kf := 3) (i := 3) rfl 0 rfl dX9_why_36 ?_
      refine vv_iadd (pc := 37) X dX9_why_37 ?_
      refine vv_aload_n (pc := 38) X (kf := 0) (i := 0) rfl 1 rfl dX9_why_38 ?_
      refine vv_getR (pc := 39) X (fun _ z => by cases List.mem_singleton.mp z; exact fl_X9_9_7) dX9_why_39 (fun v14 => ?_)
      refine vv_iconst (pc := 42) X dX9_why_42 ?_
      refine vv_iaload (pc := 43) X dX9_why_43 (fun v15 => ?_)
      refine vv_icmp_ne (pc := 44) (tgt := 49) X dX9_why_44 rfl ?_ ?_
      · refine vv_aload_n (pc := 49) X (kf := 0) (i := 0) rfl 1 rfl dX9_why_49 ?_
        refine vv_iload_n (pc := 50) X (kf := 1) (i := 1) rfl 2 rfl dX9_why_50 ?_
        refine vv_callI (pc := 51) (rest := [LR (some a0)]) (by rfl) (fun r8 k8 e8 => zz_callS X (m_X9_patternFrom (hlM X) _ _ _ _ e8) q3771 q3772 q164 q3773 nh_X9 rfl (by decide) (by decide) (Nat.le_of_ble_eq_true rfl) dX9_why_51) (fun v16 h17 => ?_)
        refine vv_iload_n (pc := 54) X (kf := 3) (i := 3) rfl 0 rfl dX9_why_54 ?_
        refine vv_rcv (fun b20 t9 c9 fs9 e21 g9 k9 => ?_)
        cases List.mem_singleton.mp k9
        refine vv_callI (pc := 55) (rest := []) (by rw [e21]; rfl) (fun r8 k8 e8 => zz_callV X (m_X9_signOf (hlM X) _ _ _ _ _ _ e8) g9 rfl rfl q3785 q3787 qs96 q164 q3788 nh_X9 rfl (by decide) (by decide) (Nat.le_of_ble_eq_true rfl) dX9_why_55) (fun v18 h19 => ?_)
        refine vv_istore (pc := 58) (lv' := [(4, LI v18), (3, LI v6), (0, LR (some a0)), (1, LI a1), (2, LI a2)]) X (by decide) rfl dX9_why_58 ?_
        refine vv_aload_n (pc := 60) X (kf := 0) (i := 0) rfl 2 rfl dX9_why_60 ?_
        refine vv_iload_n (pc := 61) X (kf := 2) (i := 2) rfl 4 rfl dX9_why_61 ?_
        refine vv_callI (pc := 62) (rest := [LR (some a0)]) (by rfl) (fun r8 k8 e8 => zz_callS X (m_X9_textFrom (hlM X) _ _ _ _ e8) q3774 q3775 q164 q3776 nh_X9 rfl (by decide) (by decide) (Nat.le_of_ble_eq_true rfl) dX9_why_62) (fun v22 h23 => ?_)
        refine vv_iload_n (pc := 65) X (kf := 3) (i := 3) rfl 1 rfl dX9_why_65 ?_
        refine vv_rcv (fun b26 t9 c9 fs9 e27 g9 k9 => ?_)
        cases List.mem_singleton.mp k9
        refine vv_callI (pc := 66) (rest := []) (by rw [e27]; rfl) (fun r8 k8 e8 => zz_callV X (m_X9_signOf (hlM X) _ _ _ _ _ _ e8) g9 rfl rfl q3785 q3787 qs96 q164 q3788 nh_X9 rfl (by decide) (by decide) (Nat.le_of_ble_eq_true rfl) dX9_why_66) (fun v24 h25 => ?_)
        refine vv_istore (pc := 69) (lv' := [(5, LI v24), (4, LI v18), (3, LI v6), (0, LR (some a0)), (1, LI a1), (2, LI a2)]) X (by decide) rfl dX9_why_69 ?_
        refine vv_iload (pc := 71) X 1 rfl dX9_why_71 ?_
        refine vv_if_lt (pc := 73) (tgt := 81) X dX9_why_73 rfl ?_ ?_
        · exact vv_sub [] (by rfl) (B_X9_why_81 X _)
        · refine vv_iload (pc := 76) X 0 rfl dX9_why_76 ?_
          refine vv_if_ge (pc := 78) (tgt := 83) X dX9_why_78 rfl ?_ ?_
          · refine vv_iload (pc := 83) X 1 rfl dX9_why_83 ?_
            refine vv_if_ne (pc := 85) (tgt := 92) X dX9_why_85 rfl ?_ ?_
            · refine vv_iload (pc := 92) X 0 rfl dX9_why_92 ?_
              refine vv_if_ne (pc := 94) (tgt := 101) X dX9_why_94 rfl ?_ ?_
              · refine vv_iconst (pc := 101) X dX9_why_101 ?_
                exact vv_sub [] (by rfl) (B_X9_why_102 X _ _)
              · refine vv_iconst (pc := 97) X dX9_why_97 ?_
                refine vv_goto (pc := 98) (tgt := 102) X dX9_why_98 rfl ?_
                exact vv_sub [] (by rfl) (B_X9_why_102 X _ _)
            · refine vv_iconst (pc := 88) X dX9_why_88 ?_
              refine vv_goto (pc := 89) (tgt := 102) X dX9_why_89 rfl ?_
              exact vv_sub [] (by rfl) (B_X9_why_102 X _ _)
          · exact vv_sub [] (by rfl) (B_X9_why_81 X _)
      · refine vv_iconst (pc := 47) X dX9_why_47 ?_
        exact vv_iretI X rfl rfl dX9_why_48
    · refine vv_iconst (pc := 33) X dX9_why_33 ?_
      exact vv_iretI X rfl rfl dX9_why_34
  · refine vv_iconst (pc := 14) X dX9_why_14 ?_
    exact vv_iretI X rfl rfl dX9_why_15
theorem m_X9_why {l : Launch} (hl : l.stackTraces = false) {G : va_G} (a0 : Nat) (a1 : Int) (a2 : Int) (h : HP) : ∀ r hf, f_X9_why a0 a1 a2 h = some (r, hf) → Ct l yX9_why (ws_ yX9_why cX9_why 6 (some .int)) 5 153 G h [.ref a0, .int (iI a1), .int (iI a2)] (jI r) hf :=
  zz_ofW hl (by decide +kernel) (lv := [(0, LR (some a0)), (1, LI a1), (2, LI a2)]) (by simp [lv_args, lvL, lvV, zz_rfc, zz_rfs, zz_ci, zz_cr, zz_cj, zz_cf, zz_cd]) (by simp [lg_sl, zz_rfc, zz_ci, zz_cr, zz_cj, zz_cf, zz_cd]) (fun _ X => A_X9_why X a0 a1 a2 h)
-- X1_longest RenamedWords.longest(II)I
noncomputable def f_X1_longest (a0 : Nat) (a1 : Int) (a2 : Int) (h : HP) : Option ((Nat ⊕ Int) × HP) :=
  (rcv h (some a0) [0]).bind fun b3 =>
  hbx (f_X1_at b3 a1 a2 h) (fun q5 h6 =>
      some (.inl q5, h6)) fun _ h2 =>
  (rdR h2 (some a0) [0] 0).bind fun v7 =>
  (rcv h2 v7 [1]).bind fun b10 =>
  hb (f_X2_longest b10 a1 a2 h2) fun v8 h9 =>
  some (.inr v8, h9)
theorem A_X1_longest {M : hp_M} {G : va_G} {h0 : HP} (X : hp_X M G h0 "RenamedWords" "longest" cX1_longest 3 (some .int) [] 9 215) (a0 : Nat) (a1 : Int) (a2 : Int) (h : HP) : vv M G h0 3 (hp_End M G h0) xI h 0 [(0, LR (some a0)), (1, LI a1), (2, LI a2)] [] (f_X1_longest a0 a1 a2 h) := by
  unfold f_X1_longest
  refine vv_aload_n (pc := 0) X (kf := 0) (i := 0) rfl 0 rfl dX1_longest_0 ?_
  refine vv_iload_n (pc := 1) X (kf := 1) (i := 1) rfl 1 rfl dX1_longest_1 ?_
  refine vv_iload_n (pc := 2) X (kf := 2) (i := 2) rfl 2 rfl dX1_longest_2 ?_
  refine vv_rcv (fun b3 t9 c9 fs9 e4 g9 k9 => ?_)
  cases List.mem_singleton.mp k9
  refine vv_xallV (pc := 3) (rest := []) (by rw [e4]; rfl) (fun r8 k8 e8 => zz_callV X (m_X1_at (hlM X) _ _ _ _ _ _ e8) g9 rfl rfl q3200 q3202 qs48 q132 q3203 nh_X1 rfl (by decide) (by decide) (Nat.le_of_ble_eq_true rfl) dX1_longest_3) (fun v1 h2 => ?_) (fun q5 h6 => ?_)
  · refine vv_aload_n (pc := 6) X (kf := 0) (i := 0) rfl 0 rfl dX1_longest_6 ?_
    refine vv_getR (pc := 7) X (fun _ z => by cases List.mem_singleton.mp z; exact fl_X1_35_0) dX1_longest_7 (fun v7 => ?_)
    refine vv_iload_n (pc := 10) X (kf := 1) (i := 1) rfl 1 rfl dX1_longest_10 ?_
    refine vv_iload_n (pc := 11) X (kf := 2) (i := 2) rfl 2 rfl dX1_longest_11 ?_
    refine vv_rcv (fun b10 t9 c9 fs9 e11 g9 k9 => ?_)
    cases List.mem_singleton.mp k9
    refine vv_callI (pc := 12) (rest := []) (by rw [e11]; rfl) (fun r8 k8 e8 => zz_callV X (m_X2_longest (hlM X) _ _ _ _ _ _ e8) g9 rfl rfl q3234 q3217 q3218 q133 q3219 nh_X2 rfl (by decide) (by decide) (Nat.le_of_ble_eq_true rfl) dX1_longest_12) (fun v8 h9 => ?_)
    exact vv_iretI X rfl rfl dX1_longest_15
  · exact vvx_out X (by decide) rfl
theorem m_X1_longest {l : Launch} (hl : l.stackTraces = false) {G : va_G} (a0 : Nat) (a1 : Int) (a2 : Int) (h : HP) : ∀ r hf, f_X1_longest a0 a1 a2 h = some (r, hf) → Ct l yX1_longest (ws_ yX1_longest cX1_longest 3 (some .int)) 9 215 G h [.ref a0, .int (iI a1), .int (iI a2)] (xI r) hf :=
  zz_ofW hl (by decide +kernel) (lv := [(0, LR (some a0)), (1, LI a1), (2, LI a2)]) (by simp [lv_args, lvL, lvV, zz_rfc, zz_rfs, zz_ci, zz_cr, zz_cj, zz_cf, zz_cd]) (by simp [lg_sl, zz_rfc, zz_ci, zz_cr, zz_cj, zz_cf, zz_cd]) (fun _ X => A_X1_longest X a0 a1 a2 h)
-- X0_longest RenamedWordsLaw.longest(LRenamedWords;II[J)I
noncomputable def b_X0_longest_13 (s0 : Option Nat) (h : HP) : Option ((Int) × HP) :=
  some (1, h)
theorem B_X0_longest_13 {M : hp_M} {G : va_G} {h0 : HP} (X : hp_X M G h0 "RenamedWordsLaw" "longest" cX0_longest 5 (some .int) (tableOf [(0, 10, 13, 18)]) 10 245) (s0 : Option Nat) (h : HP) : vv M G h0 5 (hp_End M G h0) jI h 13 [] [LR s0] (b_X0_longest_13 s0 h) := by
  unfold b_X0_longest_13
  refine vv_astore (pc := 13) (lv' := [(4, LR s0)]) X (by decide) rfl dX0_longest_13 ?_
  refine vv_iconst (pc := 15) X dX0_longest_15 ?_
  exact vv_iretI X rfl rfl dX0_longest_16
noncomputable def f_X0_longest (a1 : Option Nat) (a2 : Int) (a3 : Int) (a4 : Option Nat) (h : HP) : Option ((Int) × HP) :=
  (rcv h a1 [0]).bind fun b3 =>
  hbx (f_X1_longest b3 a2 a3 h) (fun q5 h6 =>
      (clsOf h6 q5).bind fun c7 =>
      if c7 = 35 then
        b_X0_longest_13 (some q5) h6
      else
        none) fun v1 h2 =>
  (astJ h2 a4 0 (iL v1)).bind fun h8 =>
  some (0, h8)
theorem A_X0_longest {M : hp_M} {G : va_G} {h0 : HP} (X : hp_X M G h0 "RenamedWordsLaw" "longest" cX0_longest 5 (some .int) (tableOf [(0, 10, 13, 18)]) 10 245) (a1 : Option Nat) (a2 : Int) (a3 : Int) (a4 : Option Nat) (h : HP) : vv M G h0 5 (hp_End M G h0) jI h 0 [(0, LR a1), (1, LI a2), (2, LI a3), (3, LR a4)] [] (f_X0_longest a1 a2 a3 a4 h) := by
  unfold f_X0_longest
  refine vv_aload_n (pc := 0) X (kf := 3) (i := 3) rfl 3 rfl dX0_longest_0 ?_
  refine vv_iconst (pc := 1) X dX0_longest_1 ?_
  refine vv_aload_n (pc := 2) X (kf := 0) (i := 0) rfl 0 rfl dX0_longest_2 ?_
  refine vv_iload_n (pc := 3) X (kf := 1) (i := 1) rfl 1 rfl dX0_longest_3 ?_
  refine vv_iload_n (pc := 4) X (kf := 2) (i := 2) rfl 2 rfl dX0_longest_4 ?_
  refine vv_rcv (fun b3 t9 c9 fs9 e4 g9 k9 => ?_)
  cases List.mem_singleton.mp k9
  refine vv_xallI (pc := 5) (rest := [LI 0, LR a4]) (by rw [e4]; rfl) (fun r8 k8 e8 => zz_callV X (m_X1_longest (hlM X) _ _ _ _ _ _ e8) g9 rfl rfl q3230 q3231 q3232 q132 q3233 nh_X1 rfl (by decide) (by decide) (Nat.le_of_ble_eq_true rfl) dX0_longest_5) (fun v1 h2 => ?_) (fun q5 h6 => ?_)
  · refine vv_i2l (pc := 8) X dX0_longest_8 ?_
    refine vv_lastore (pc := 9) X dX0_longest_9 (fun h8 => ?_)
    refine vv_goto (pc := 10) (tgt := 17) X dX0_longest_10 rfl ?_
    refine vv_iconst (pc := 17) X dX0_longest_17 ?_
    exact vv_iretI X rfl rfl dX0_longest_18
  · refine vvx_cls (fun _ c7 _ g9 => ?_)
    refine vvx_if (fun e9 => ?_) (fun _ => ?_)
    · subst e9
      refine vvx_catch X g9 rfl [] ⟨0, 10, 13, 18⟩ [] rfl (fun z hz => nomatch hz) rfl (by decide) q3041 q2274 ?_
      exact vv_sub [] (by rfl) (B_X0_longest_13 X _ _)
    · exact vvx_none
theorem m_X0_longest {l : Launch} (hl : l.stackTraces = false) {G : va_G} (a1 : Option Nat) (a2 : Int) (a3 : Int) (a4 : Option Nat) (h : HP) : ∀ r hf, f_X0_longest a1 a2 a3 a4 h = some (r, hf) → Ct l yX0_longest (wsW_ yX0_longest cX0_longest 5 (some .int) [(0, 10, 13, 18)]) 10 245 G h [va_rf a1, .int (iI a2), .int (iI a3), va_rf a4] (jI r) hf :=
  zz_ofWH hl (by decide +kernel) (lv := [(0, LR a1), (1, LI a2), (2, LI a3), (3, LR a4)]) (by simp [lv_args, lvL, lvV, zz_rfc, zz_rfs, zz_ci, zz_cr, zz_cj, zz_cf, zz_cd]) (by simp [lg_sl, zz_rfc, zz_ci, zz_cr, zz_cj, zz_cf, zz_cd]) (fun _ X => A_X0_longest X a1 a2 a3 a4 h)
-- X9_longest RenamedWordsModel.longest(II)I
noncomputable def b_X9_longest_24 (s0 : Int) (h : HP) : Option ((Int) × HP) :=
  some (s0, h)
theorem B_X9_longest_24 {M : hp_M} {G : va_G} {h0 : HP} (X : hp_X M G h0 "RenamedWordsModel" "longest" cX9_longest 3 (some .int) [] 5 153) (s0 : Int) (h : HP) : vv M G h0 3 (hp_End M G h0) jI h 24 [] [LI s0] (b_X9_longest_24 s0 h) := by
  unfold b_X9_longest_24
  exact vv_iretI X rfl rfl dX9_longest_24
noncomputable def f_X9_longest (a0 : Nat) (a1 : Int) (a2 : Int) (h : HP) : Option ((Int) × HP) :=
  (wrI h (some a0) [7] 7 0).bind fun h1 =>
  (rcv h1 (some a0) [7]).bind fun b4 =>
  hb (f_X9_noThere b4 a1 a2 h1) fun v2 h3 =>
  iEQ v2 0
    ((rcv h3 (some a0) [7]).bind fun b8 =>
    hb (f_X9_matched b8 a1 a2 h3) fun v6 h7 =>
    b_X9_longest_24 v6 h7)
    (b_X9_longest_24 0 h3)
theorem A_X9_longest {M : hp_M} {G : va_G} {h0 : HP} (X : hp_X M G h0 "RenamedWordsModel" "longest" cX9_longest 3 (some .int) [] 5 153) (a0 : Nat) (a1 : Int) (a2 : Int) (h : HP) : vv M G h0 3 (hp_End M G h0) jI h 0 [(0, LR (some a0)), (1, LI a1), (2, LI a2)] [] (f_X9_longest a0 a1 a2 h) := by
  unfold f_X9_longest
  refine vv_aload_n (pc := 0) X (kf := 0) (i := 0) rfl 0 rfl dX9_longest_0 ?_
  refine vv_iconst (pc := 1) X dX9_longest_1 ?_
  refine vv_putI (pc := 2) (fin := false) X (fun _ z => by cases List.mem_singleton.mp z; exact fl_X9_69_7) (fun z => nomatch z) (fun z => nomatch z) dX9_longest_2 (fun h1 => ?_)
  refine vv_aload_n (pc := 5) X (kf := 0) (i := 0) rfl 0 rfl dX9_longest_5 ?_
  refine vv_iload_n (pc := 6) X (kf := 1) (i := 1) rfl 1 rfl dX9_longest_6 ?_
  refine vv_iload_n (pc := 7) X (kf := 2) (i := 2) rfl 2 rfl dX9_longest_7 ?_
  refine vv_rcv (fun b4 t9 c9 fs9 e5 g9 k9 => ?_)
  cases List.mem_singleton.mp k9
  refine vv_callI (pc := 8) (rest := []) (by rw [e5]; rfl) (fun r8 k8 e8 => zz_callV X (m_X9_noThere (hlM X) _ _ _ _ _ _ e8) g9 rfl rfl q3942 q3944 qs120 q164 q3945 nh_X9 rfl (by decide) (by decide) (Nat.le_of_ble_eq_true rfl) dX9_longest_8) (fun v2 h3 => ?_)
  refine vv_if_eq (pc := 11) (tgt := 18) X dX9_longest_11 rfl ?_ ?_
  · refine vv_aload_n (pc := 18) X (kf := 0) (i := 0) rfl 0 rfl dX9_longest_18 ?_
    refine vv_iload_n (pc := 19) X (kf := 1) (i := 1) rfl 1 rfl dX9_longest_19 ?_
    refine vv_iload_n (pc := 20) X (kf := 2) (i := 2) rfl 2 rfl dX9_longest_20 ?_
    refine vv_rcv (fun b8 t9 c9 fs9 e9 g9 k9 => ?_)
    cases List.mem_singleton.mp k9
    refine vv_callI (pc := 21) (rest := []) (by rw [e9]; rfl) (fun r8 k8 e8 => zz_callV X (m_X9_matched (hlM X) _ _ _ _ _ _ e8) g9 rfl rfl q3767 q3769 qs93 q164 q3770 nh_X9 rfl (by decide) (by decide) (Nat.le_of_ble_eq_true rfl) dX9_longest_21) (fun v6 h7 => ?_)
    exact vv_sub [] (by rfl) (B_X9_longest_24 X _ _)
  · refine vv_iconst (pc := 14) X dX9_longest_14 ?_
    refine vv_goto (pc := 15) (tgt := 24) X dX9_longest_15 rfl ?_
    exact vv_sub [] (by rfl) (B_X9_longest_24 X _ _)
theorem m_X9_longest {l : Launch} (hl : l.stackTraces = false) {G : va_G} (a0 : Nat) (a1 : Int) (a2 : Int) (h : HP) : ∀ r hf, f_X9_longest a0 a1 a2 h = some (r, hf) → Ct l yX9_longest (ws_ yX9_longest cX9_longest 3 (some .int)) 5 153 G h [.ref a0, .int (iI a1), .int (iI a2)] (jI r) hf :=
  zz_ofW hl (by decide +kernel) (lv := [(0, LR (some a0)), (1, LI a1), (2, LI a2)]) (by simp [lv_args, lvL, lvV, zz_rfc, zz_rfs, zz_ci, zz_cr, zz_cj, zz_cf, zz_cd]) (by simp [lg_sl, zz_rfc, zz_ci, zz_cr, zz_cj, zz_cf, zz_cd]) (fun _ X => A_X9_longest X a0 a1 a2 h)
-- X1_isLetter RenamedWords.isLetter(I)Z
noncomputable def f_X1_isLetter (a1 : Int) (h : HP) : Option ((Int) × HP) :=
  hb (f_X1_in (iL a1) 0 (25 : Int64) h) fun v1 h2 =>
  rtZ v1 (some (v1, h2))
theorem A_X1_isLetter {M : hp_M} {G : va_G} {h0 : HP} (X : hp_X M G h0 "RenamedWords" "isLetter" cX1_isLetter 1 (some .boolean) [] 1 33) (a1 : Int) (h : HP) : vv M G h0 1 (hp_End M G h0) jI h 0 [(0, LI a1)] [] (f_X1_isLetter a1 h) := by
  unfold f_X1_isLetter
  refine vv_iload_n (pc := 0) X (kf := 0) (i := 0) rfl 0 rfl dX1_isLetter_0 ?_
  refine vv_i2l (pc := 1) X dX1_isLetter_1 ?_
  refine vv_lconst (pc := 2) (v := 0) X (by decide) dX1_isLetter_2 ?_
  refine vv_ldc2 (pc := 3) X q3246 dX1_isLetter_3 ?_
  refine vv_callI (pc := 6) (rest := []) (by rfl) (fun r8 k8 e8 => zz_callS X (m_X1_in (hlM X) _ _ _ _ _ _ e8) q2984 q873 q132 q874 nh_X1 rfl (by decide) (by decide) (Nat.le_of_ble_eq_true rfl) dX1_isLetter_6) (fun v1 h2 => ?_)
  exact vv_iretZ X rfl rfl dX1_isLetter_9
theorem m_X1_isLetter {l : Launch} (hl : l.stackTraces = false) {G : va_G} (a1 : Int) (h : HP) : ∀ r hf, f_X1_isLetter a1 h = some (r, hf) → Ct l yX1_isLetter (ws_ yX1_isLetter cX1_isLetter 1 (some .boolean)) 1 33 G h [.int (iI a1)] (jI r) hf :=
  zz_ofW hl (by decide +kernel) (lv := [(0, LI a1)]) (by simp [lv_args, lvL, lvV, zz_rfc, zz_rfs, zz_ci, zz_cr, zz_cj, zz_cf, zz_cd]) (by simp [lg_sl, zz_rfc, zz_ci, zz_cr, zz_cj, zz_cf, zz_cd]) (fun _ X => A_X1_isLetter X a1 h)
-- X1_element RenamedWords.element(Z)V
noncomputable def f_X1_element (a1 : Int) (h : HP) : Option ((Nat ⊕ Unit) × HP) :=
  iEQ a1 0
    (hb (nwX h 0 34) fun v1 h2 =>
    (v1).bind fun q3 =>
    some (.inl q3, h2))
    (some (.inr (), h))
theorem A_X1_element {M : hp_M} {G : va_G} {h0 : HP} (X : hp_X M G h0 "RenamedWords" "element" cX1_element 1 none [] 6 97) (a1 : Int) (h : HP) : vv M G h0 1 (hp_End M G h0) xV h 0 [(0, LI a1)] [] (f_X1_element a1 h) := by
  unfold f_X1_element
  refine vv_iload_n (pc := 0) X (kf := 0) (i := 0) rfl 0 rfl dX1_element_0 ?_
  refine vv_if_ne (pc := 1) (tgt := 12) X dX1_element_1 rfl ?_ ?_
  · exact vv_vreturn X rfl rfl dX1_element_12
  · refine vv_newX (pc := 4) (cls := "java/util/NoSuchElementException") (names := ["java/lang/RuntimeException", "java/lang/Exception"]) X (by decide +kernel) (by decide +kernel) q3250 q192 nx_X1_element_4 (by decide +kernel) dX1_element_4 dX1_element_7 dX1_element_8 rfl (by decide) (by decide) (Nat.le_of_ble_eq_true rfl) (fun v1 h2 => ?_)
    refine vv_athrow (pc := 11) X dX1_element_11 (fun q3 _ => ?_)
    exact vvx_out X (by decide) rfl
theorem m_X1_element {l : Launch} (hl : l.stackTraces = false) {G : va_G} (a1 : Int) (h : HP) : ∀ r hf, f_X1_element a1 h = some (r, hf) → Ct l yX1_element (ws_ yX1_element cX1_element 1 none) 6 97 G h [.int (iI a1)] (xV r) hf :=
  zz_ofW hl (by decide +kernel) (lv := [(0, LI a1)]) (by simp [lv_args, lvL, lvV, zz_rfc, zz_rfs, zz_ci, zz_cr, zz_cj, zz_cf, zz_cd]) (by simp [lg_sl, zz_rfc, zz_ci, zz_cr, zz_cj, zz_cf, zz_cd]) (fun _ X => A_X1_element X a1 h)
-- X2_renamed RenamedWords$Desk.renamed(III)I
noncomputable def c_X2_renamed_11 (r11 : Option Nat → Int → Int → Option Nat → Int → HP → Option ((Int) × HP)) (x0 : Option Nat) (x2 : Int) (x3 : Int) (x4 : Option Nat) (x5 : Int) (h : HP) : Option ((Int) × HP) :=
  (rcv h x4 [11]).bind fun b5 =>
  hb (f_X14_many b5 h) fun v3 h4 =>
  iLE v3 x5
    (some ((-1), h4))
    ((rcv h4 x4 [11]).bind fun b9 =>
    hb (f_X14_at b9 x5 h4) fun v7 h8 =>
    iEQ v7 x3
      ((rdR h8 x0 [1] 0).bind fun v11 =>
      (rcv h8 v11 [3]).bind fun b14 =>
      hb (f_X5_at b14 (x2 + x5) h8) fun v12 h13 =>
      some (v12, h13))
      (r11 x0 x2 x3 x4 (x5 + 1) h8))
noncomputable def b_X2_renamed_11 : Option Nat → Int → Int → Option Nat → Int → HP → Option ((Int) × HP) := fx (fun _ _ _ _ _ _ => none) (c_X2_renamed_11) FU
theorem C_X2_renamed_11 {M : hp_M} {G : va_G} {h0 : HP} (X : hp_X M G h0 "RenamedWords$Desk" "renamed" cX2_renamed 6 (some .int) [] 1 29) (r11 : Option Nat → Int → Int → Option Nat → Int → HP → Option ((Int) × HP)) (hr11 : ∀ (y0 : Option Nat) (y2 : Int) (y3 : Int) (y4 : Option Nat) (y5 : Int) (h : HP), vv M G h0 6 (hp_End M G h0) jI h 11 [(0, LR y0), (2, LI y2), (3, LI y3), (4, LR y4), (5, LI y5)] [] (r11 y0 y2 y3 y4 y5 h)) (x0 : Option Nat) (x2 : Int) (x3 : Int) (x4 : Option Nat) (x5 : Int) (h : HP) : vv M G h0 6 (hp_End M G h0) jI h 11 [(0, LR x0), (2, LI x2), (3, LI x3), (4, LR x4), (5, LI x5)] [] (c_X2_renamed_11 r11 x0 x2 x3 x4 x5 h) := by
  unfold c_X2_renamed_11
  refine vv_iload (pc := 11) X 4 rfl dX2_renamed_11 ?_
  refine vv_aload (pc := 13) X 3 rfl dX2_renamed_13 ?_
  refine vv_rcv (fun b5 t9 c9 fs9 e6 g9 k9 => ?_)
  cases List.mem_singleton.mp k9
  refine vv_callI (pc := 15) (rest := [LI x5]) (by rw [e6]; rfl) (fun r8 k8 e8 => zz_callV X (m_X14_many (hlM X) _ _ _ _ e8) g9 rfl rfl q2600 q2601 q2602 q174 q2603 nh_X14 rfl (by decide) (by decide) (Nat.le_of_ble_eq_true rfl) dX2_renamed_15) (fun v3 h4 => ?_)
  refine vv_icmp_ge (pc := 18) (tgt := 50) X dX2_renamed_18 rfl ?_ ?_
  · refine vv_iconst (pc := 50) X dX2_renamed_50 ?_
    exact vv_iretI X rfl rfl dX2_renamed_51
  · refine vv_aload (pc := 21) X 3 rfl dX2_renamed_21 ?_
    refine vv_iload (pc := 23) X 4 rfl dX2_renamed_23 ?_
    refine vv_rcv (fun b9 t9 c9 fs9 e10 g9 k9 => ?_)
    cases List.mem_singleton.mp k9
    refine vv_callI (pc := 25) (rest := []) (by rw [e10]; rfl) (fun r8 k8 e8 => zz_callV X (m_X14_at (hlM X) _ _ _ _ _ e8) g9 rfl rfl q3256 q2641 q4118 q174 q2642 nh_X14 rfl (by decide) (by decide) (Nat.le_of_ble_eq_true rfl) dX2_renamed_25) (fun v7 h8 => ?_)
    refine vv_iload_n (pc := 28) X (kf := 3) (i := 3) rfl 2 rfl dX2_renamed_28 ?_
    refine vv_icmp_ne (pc := 29) (tgt := 44) X dX2_renamed_29 rfl ?_ ?_
    · refine vv_iinc (pc := 44) (lv' := [(5, LI (x5 + 1)), (0, LR x0), (2, LI x2), (3, LI x3), (4, LR x4)]) X 4 rfl (by decide) rfl dX2_renamed_44 ?_
      refine vv_goto (pc := 47) (tgt := 11) X dX2_renamed_47 rfl ?_
      exact vv_sub [1, 2, 3, 4, 0] (by rfl) (hr11 _ _ _ _ _ _)
    · refine vv_aload_n (pc := 32) X (kf := 0) (i := 0) rfl 0 rfl dX2_renamed_32 ?_
      refine vv_getR (pc := 33) X (fun _ z => by cases List.mem_singleton.mp z; exact fl_X2_12_1) dX2_renamed_33 (fun v11 => ?_)
      refine vv_iload_n (pc := 36) X (kf := 2) (i := 2) rfl 1 rfl dX2_renamed_36 ?_
      refine vv_iload (pc := 37) X 4 rfl dX2_renamed_37 ?_
      refine vv_iadd (pc := 39) X dX2_renamed_39 ?_
      refine vv_rcv (fun b14 t9 c9 fs9 e15 g9 k9 => ?_)
      cases List.mem_singleton.mp k9
      refine vv_callI (pc := 40) (rest := []) (by rw [e15]; rfl) (fun r8 k8 e8 => zz_callV X (m_X5_at (hlM X) _ _ _ _ _ e8) g9 rfl rfl q2799 q2635 q4111 q157 q2636 nh_X5 rfl (by decide) (by decide) (Nat.le_of_ble_eq_true rfl) dX2_renamed_40) (fun v12 h13 => ?_)
      exact vv_iretI X rfl rfl dX2_renamed_43
theorem B_X2_renamed_11 {M : hp_M} {G : va_G} {h0 : HP} (X : hp_X M G h0 "RenamedWords$Desk" "renamed" cX2_renamed 6 (some .int) [] 1 29) : ∀ (x0 : Option Nat) (x2 : Int) (x3 : Int) (x4 : Option Nat) (x5 : Int) (h : HP), vv M G h0 6 (hp_End M G h0) jI h 11 [(0, LR x0), (2, LI x2), (3, LI x3), (4, LR x4), (5, LI x5)] [] (b_X2_renamed_11 x0 x2 x3 x4 x5 h) := by
  unfold b_X2_renamed_11
  generalize FU = n
  induction n with
  | zero => intro x0 x2 x3 x4 x5 h; exact vv_none
  | succ n ih => exact C_X2_renamed_11 X _ ih
noncomputable def f_X2_renamed (a0 : Nat) (a1 : Int) (a2 : Int) (a3 : Int) (h : HP) : Option ((Int) × HP) :=
  (rdR h (some a0) [1] 2).bind fun v1 =>
  (aldR h "RenamedWords$Word" v1 a1).bind fun v2 =>
  b_X2_renamed_11 (some a0) a2 a3 v2 0 h
theorem A_X2_renamed {M : hp_M} {G : va_G} {h0 : HP} (X : hp_X M G h0 "RenamedWords$Desk" "renamed" cX2_renamed 6 (some .int) [] 1 29) (a0 : Nat) (a1 : Int) (a2 : Int) (a3 : Int) (h : HP) : vv M G h0 6 (hp_End M G h0) jI h 0 [(0, LR (some a0)), (1, LI a1), (2, LI a2), (3, LI a3)] [] (f_X2_renamed a0 a1 a2 a3 h) := by
  unfold f_X2_renamed
  refine vv_aload_n (pc := 0) X (kf := 0) (i := 0) rfl 0 rfl dX2_renamed_0 ?_
  refine vv_getR (pc := 1) X (fun _ z => by cases List.mem_singleton.mp z; exact fl_X2_20_1) dX2_renamed_1 (fun v1 => ?_)
  refine vv_iload_n (pc := 4) X (kf := 1) (i := 1) rfl 1 rfl dX2_renamed_4 ?_
  refine vv_aaload (pc := 5) X dX2_renamed_5 (fun v2 => ?_)
  refine vv_astore (pc := 6) (lv' := [(4, LR v2), (0, LR (some a0)), (1, LI a1), (2, LI a2), (3, LI a3)]) X (by decide) rfl dX2_renamed_6 ?_
  refine vv_iconst (pc := 8) X dX2_renamed_8 ?_
  refine vv_istore (pc := 9) (lv' := [(5, LI 0), (4, LR v2), (0, LR (some a0)), (1, LI a1), (2, LI a2), (3, LI a3)]) X (by decide) rfl dX2_renamed_9 ?_
  exact vv_sub [2, 4, 5, 1, 0] (by rfl) (B_X2_renamed_11 X _ _ _ _ _ _)
theorem m_X2_renamed {l : Launch} (hl : l.stackTraces = false) {G : va_G} (a0 : Nat) (a1 : Int) (a2 : Int) (a3 : Int) (h : HP) : ∀ r hf, f_X2_renamed a0 a1 a2 a3 h = some (r, hf) → Ct l yX2_renamed (ws_ yX2_renamed cX2_renamed 6 (some .int)) 1 29 G h [.ref a0, .int (iI a1), .int (iI a2), .int (iI a3)] (jI r) hf :=
  zz_ofW hl (by decide +kernel) (lv := [(0, LR (some a0)), (1, LI a1), (2, LI a2), (3, LI a3)]) (by simp [lv_args, lvL, lvV, zz_rfc, zz_rfs, zz_ci, zz_cr, zz_cj, zz_cf, zz_cd]) (by simp [lg_sl, zz_rfc, zz_ci, zz_cr, zz_cj, zz_cf, zz_cd]) (fun _ X => A_X2_renamed X a0 a1 a2 a3 h)
-- X1_renamed RenamedWords.renamed(III)I
noncomputable def f_X1_renamed (a0 : Nat) (a1 : Int) (a2 : Int) (a3 : Int) (h : HP) : Option ((Nat ⊕ Int) × HP) :=
  (rcv h (some a0) [0]).bind fun b3 =>
  hbx (f_X1_at b3 a1 a2 h) (fun q5 h6 =>
      some (.inl q5, h6)) fun _ h2 =>
  hb (f_X1_isLetter a3 h2) fun v7 h8 =>
  hbx (f_X1_argument v7 h8) (fun q11 h12 =>
      some (.inl q11, h12)) fun _ h10 =>
  (rdR h10 (some a0) [0] 0).bind fun v13 =>
  (rcv h10 v13 [1]).bind fun b16 =>
  hb (f_X2_isAt b16 a1 a2 h10) fun v14 h15 =>
  hbx (f_X1_element v14 h15) (fun q20 h21 =>
      some (.inl q20, h21)) fun _ h19 =>
  (rdR h19 (some a0) [0] 0).bind fun v22 =>
  (rcv h19 v22 [1]).bind fun b25 =>
  hb (f_X2_renamed b25 a1 a2 a3 h19) fun v23 h24 =>
  some (.inr v23, h24)
theorem A_X1_renamed {M : hp_M} {G : va_G} {h0 : HP} (X : hp_X M G h0 "RenamedWords" "renamed" cX1_renamed 4 (some .int) [] 9 244) (a0 : Nat) (a1 : Int) (a2 : Int) (a3 : Int) (h : HP) : vv M G h0 4 (hp_End M G h0) xI h 0 [(0, LR (some a0)), (1, LI a1), (2, LI a2), (3, LI a3)] [] (f_X1_renamed a0 a1 a2 a3 h) := by
  unfold f_X1_renamed
  refine vv_aload_n (pc := 0) X (kf := 0) (i := 0) rfl 0 rfl dX1_renamed_0 ?_
  refine vv_iload_n (pc := 1) X (kf := 1) (i := 1) rfl 1 rfl dX1_renamed_1 ?_
  refine vv_iload_n (pc := 2) X (kf := 2) (i := 2) rfl 2 rfl dX1_renamed_2 ?_
  refine vv_rcv (fun b3 t9 c9 fs9 e4 g9 k9 => ?_)
  cases List.mem_singleton.mp k9
  refine vv_xallV (pc := 3) (rest := []) (by rw [e4]; rfl) (fun r8 k8 e8 => zz_callV X (m_X1_at (hlM X) _ _ _ _ _ _ e8) g9 rfl rfl q3200 q3202 qs48 q132 q3203 nh_X1 rfl (by decide) (by decide) (Nat.le_of_ble_eq_true rfl) dX1_renamed_3) (fun v1 h2 => ?_) (fun q5 h6 => ?_)
  · refine vv_iload_n (pc := 6) X (kf := 3) (i := 3) rfl 3 rfl dX1_renamed_6 ?_
    refine vv_callI (pc := 7) (rest := []) (by rfl) (fun r8 k8 e8 => zz_callS X (m_X1_isLetter (hlM X) _ _ _ _ e8) q3243 q3244 q132 q3245 nh_X1 rfl (by decide) (by decide) (Nat.le_of_ble_eq_true rfl) dX1_renamed_7) (fun v7 h8 => ?_)
    refine vv_xallV (pc := 10) (rest := []) (by rfl) (fun r8 k8 e8 => zz_callS X (m_X1_argument (hlM X) _ _ _ _ e8) q3090 q3091 q132 q3092 nh_X1 rfl (by decide) (by decide) (Nat.le_of_ble_eq_true rfl) dX1_renamed_10) (fun v9 h10 => ?_) (fun q11 h12 => ?_)
    · refine vv_aload_n (pc := 13) X (kf := 0) (i := 0) rfl 0 rfl dX1_renamed_13 ?_
      refine vv_getR (pc := 14) X (fun _ z => by cases List.mem_singleton.mp z; exact fl_X1_35_0) dX1_renamed_14 (fun v13 => ?_)
      refine vv_iload_n (pc := 17) X (kf := 1) (i := 1) rfl 1 rfl dX1_renamed_17 ?_
      refine vv_iload_n (pc := 18) X (kf := 2) (i := 2) rfl 2 rfl dX1_renamed_18 ?_
      refine vv_rcv (fun b16 t9 c9 fs9 e17 g9 k9 => ?_)
      cases List.mem_singleton.mp k9
      refine vv_callI (pc := 19) (rest := []) (by rw [e17]; rfl) (fun r8 k8 e8 => zz_callV X (m_X2_isAt (hlM X) _ _ _ _ _ _ e8) g9 rfl rfl q3204 q2597 q2598 q133 q2599 nh_X2 rfl (by decide) (by decide) (Nat.le_of_ble_eq_true rfl) dX1_renamed_19) (fun v14 h15 => ?_)
      refine vv_xallV (pc := 22) (rest := []) (by rfl) (fun r8 k8 e8 => zz_callS X (m_X1_element (hlM X) _ _ _ _ e8) q3247 q3248 q132 q3249 nh_X1 rfl (by decide) (by decide) (Nat.le_of_ble_eq_true rfl) dX1_renamed_22) (fun v18 h19 => ?_) (fun q20 h21 => ?_)
      · refine vv_aload_n (pc := 25) X (kf := 0) (i := 0) rfl 0 rfl dX1_renamed_25 ?_
        refine vv_getR (pc := 26) X (fun _ z => by cases List.mem_singleton.mp z; exact fl_X1_35_0) dX1_renamed_26 (fun v22 => ?_)
        refine vv_iload_n (pc := 29) X (kf := 1) (i := 1) rfl 1 rfl dX1_renamed_29 ?_
        refine vv_iload_n (pc := 30) X (kf := 2) (i := 2) rfl 2 rfl dX1_renamed_30 ?_
        refine vv_iload_n (pc := 31) X (kf := 3) (i := 3) rfl 3 rfl dX1_renamed_31 ?_
        refine vv_rcv (fun b25 t9 c9 fs9 e26 g9 k9 => ?_)
        cases List.mem_singleton.mp k9
        refine vv_callI (pc := 32) (rest := []) (by rw [e26]; rfl) (fun r8 k8 e8 => zz_callV X (m_X2_renamed (hlM X) _ _ _ _ _ _ _ e8) g9 rfl rfl q3252 q3253 q3254 q133 q3255 nh_X2 rfl (by decide) (by decide) (Nat.le_of_ble_eq_true rfl) dX1_renamed_32) (fun v23 h24 => ?_)
        exact vv_iretI X rfl rfl dX1_renamed_35
      · exact vvx_out X (by decide) rfl
    · exact vvx_out X (by decide) rfl
  · exact vvx_out X (by decide) rfl
theorem m_X1_renamed {l : Launch} (hl : l.stackTraces = false) {G : va_G} (a0 : Nat) (a1 : Int) (a2 : Int) (a3 : Int) (h : HP) : ∀ r hf, f_X1_renamed a0 a1 a2 a3 h = some (r, hf) → Ct l yX1_renamed (ws_ yX1_renamed cX1_renamed 4 (some .int)) 9 244 G h [.ref a0, .int (iI a1), .int (iI a2), .int (iI a3)] (xI r) hf :=
  zz_ofW hl (by decide +kernel) (lv := [(0, LR (some a0)), (1, LI a1), (2, LI a2), (3, LI a3)]) (by simp [lv_args, lvL, lvV, zz_rfc, zz_rfs, zz_ci, zz_cr, zz_cj, zz_cf, zz_cd]) (by simp [lg_sl, zz_rfc, zz_ci, zz_cr, zz_cj, zz_cf, zz_cd]) (fun _ X => A_X1_renamed X a0 a1 a2 a3 h)
-- X0_renamed RenamedWordsLaw.renamed(LRenamedWords;III[J)I
noncomputable def b_X0_renamed_23 (s0 : Option Nat) (h : HP) : Option ((Int) × HP) :=
  some (3, h)
theorem B_X0_renamed_23 {M : hp_M} {G : va_G} {h0 : HP} (X : hp_X M G h0 "RenamedWordsLaw" "renamed" cX0_renamed 6 (some .int) (tableOf [(0, 12, 15, 18), (0, 12, 19, 13), (0, 12, 23, 59)]) 10 275) (s0 : Option Nat) (h : HP) : vv M G h0 6 (hp_End M G h0) jI h 23 [] [LR s0] (b_X0_renamed_23 s0 h) := by
  unfold b_X0_renamed_23
  refine vv_astore (pc := 23) (lv' := [(5, LR s0)]) X (by decide) rfl dX0_renamed_23 ?_
  refine vv_iconst (pc := 25) X dX0_renamed_25 ?_
  exact vv_iretI X rfl rfl dX0_renamed_26
noncomputable def b_X0_renamed_19 (s0 : Option Nat) (h : HP) : Option ((Int) × HP) :=
  some (2, h)
theorem B_X0_renamed_19 {M : hp_M} {G : va_G} {h0 : HP} (X : hp_X M G h0 "RenamedWordsLaw" "renamed" cX0_renamed 6 (some .int) (tableOf [(0, 12, 15, 18), (0, 12, 19, 13), (0, 12, 23, 59)]) 10 275) (s0 : Option Nat) (h : HP) : vv M G h0 6 (hp_End M G h0) jI h 19 [] [LR s0] (b_X0_renamed_19 s0 h) := by
  unfold b_X0_renamed_19
  refine vv_astore (pc := 19) (lv' := [(5, LR s0)]) X (by decide) rfl dX0_renamed_19 ?_
  refine vv_iconst (pc := 21) X dX0_renamed_21 ?_
  exact vv_iretI X rfl rfl dX0_renamed_22
noncomputable def b_X0_renamed_15 (s0 : Option Nat) (h : HP) : Option ((Int) × HP) :=
  some (1, h)
theorem B_X0_renamed_15 {M : hp_M} {G : va_G} {h0 : HP} (X : hp_X M G h0 "RenamedWordsLaw" "renamed" cX0_renamed 6 (some .int) (tableOf [(0, 12, 15, 18), (0, 12, 19, 13), (0, 12, 23, 59)]) 10 275) (s0 : Option Nat) (h : HP) : vv M G h0 6 (hp_End M G h0) jI h 15 [] [LR s0] (b_X0_renamed_15 s0 h) := by
  unfold b_X0_renamed_15
  refine vv_astore (pc := 15) (lv' := [(5, LR s0)]) X (by decide) rfl dX0_renamed_15 ?_
  refine vv_iconst (pc := 17) X dX0_renamed_17 ?_
  exact vv_iretI X rfl rfl dX0_renamed_18
noncomputable def f_X0_renamed (a1 : Option Nat) (a2 : Int) (a3 : Int) (a4 : Int) (a5 : Option Nat) (h : HP) : Option ((Int) × HP) :=
  (rcv h a1 [0]).bind fun b3 =>
  hbx (f_X1_renamed b3 a2 a3 a4 h) (fun q5 h6 =>
      (clsOf h6 q5).bind fun c7 =>
      if c7 = 35 then
        b_X0_renamed_15 (some q5) h6
      else
        if c7 = 36 then
          b_X0_renamed_19 (some q5) h6
        else
          if c7 = 34 then
            b_X0_renamed_23 (some q5) h6
          else
            none) fun v1 h2 =>
  (astJ h2 a5 0 (iL v1)).bind fun h8 =>
  some (0, h8)
theorem A_X0_renamed {M : hp_M} {G : va_G} {h0 : HP} (X : hp_X M G h0 "RenamedWordsLaw" "renamed" cX0_renamed 6 (some .int) (tableOf [(0, 12, 15, 18), (0, 12, 19, 13), (0, 12, 23, 59)]) 10 275) (a1 : Option Nat) (a2 : Int) (a3 : Int) (a4 : Int) (a5 : Option Nat) (h : HP) : vv M G h0 6 (hp_End M G h0) jI h 0 [(0, LR a1), (1, LI a2), (2, LI a3), (3, LI a4), (4, LR a5)] [] (f_X0_renamed a1 a2 a3 a4 a5 h) := by
  unfold f_X0_renamed
  refine vv_aload (pc := 0) X 4 rfl dX0_renamed_0 ?_
  refine vv_iconst (pc := 2) X dX0_renamed_2 ?_
  refine vv_aload_n (pc := 3) X (kf := 0) (i := 0) rfl 0 rfl dX0_renamed_3 ?_
  refine vv_iload_n (pc := 4) X (kf := 1) (i := 1) rfl 1 rfl dX0_renamed_4 ?_
  refine vv_iload_n (pc := 5) X (kf := 2) (i := 2) rfl 2 rfl dX0_renamed_5 ?_
  refine vv_iload_n (pc := 6) X (kf := 3) (i := 3) rfl 3 rfl dX0_renamed_6 ?_
  refine vv_rcv (fun b3 t9 c9 fs9 e4 g9 k9 => ?_)
  cases List.mem_singleton.mp k9
  refine vv_xallI (pc := 7) (rest := [LI 0, LR a5]) (by rw [e4]; rfl) (fun r8 k8 e8 => zz_callV X (m_X1_renamed (hlM X) _ _ _ _ _ _ _ e8) g9 rfl rfl q3239 q3240 q3241 q132 q3242 nh_X1 rfl (by decide) (by decide) (Nat.le_of_ble_eq_true rfl) dX0_renamed_7) (fun v1 h2 => ?_) (fun q5 h6 => ?_)
  · refine vv_i2l (pc := 10) X dX0_renamed_10 ?_
    refine vv_lastore (pc := 11) X dX0_renamed_11 (fun h8 => ?_)
    refine vv_goto (pc := 12) (tgt := 27) X dX0_renamed_12 rfl ?_
    refine vv_iconst (pc := 27) X dX0_renamed_27 ?_
    exact vv_iretI X rfl rfl dX0_renamed_28
  · refine vvx_cls (fun _ c7 _ g9 => ?_)
    refine vvx_if (fun e9 => ?_) (fun _ => ?_)
    · subst e9
      refine vvx_catch X g9 rfl [] ⟨0, 12, 15, 18⟩ [⟨0, 12, 19, 13⟩, ⟨0, 12, 23, 59⟩] rfl (fun z hz => nomatch hz) rfl (by decide) q3041 q2274 ?_
      exact vv_sub [] (by rfl) (B_X0_renamed_15 X _ _)
    · refine vvx_if (fun e9 => ?_) (fun _ => ?_)
      · subst e9
        refine vvx_catch X g9 rfl [⟨0, 12, 15, 18⟩] ⟨0, 12, 19, 13⟩ [⟨0, 12, 23, 59⟩] rfl (fun z hz => by rcases List.mem_cons.mp hz with rfl | hz; exact Or.inr ⟨by decide, _, q3041, List.mem_of_getElem? (i := 0) rfl⟩; exact nomatch hz) rfl (by decide) q3013 q275 ?_
        exact vv_sub [] (by rfl) (B_X0_renamed_19 X _ _)
      · refine vvx_if (fun e9 => ?_) (fun _ => ?_)
        · subst e9
          refine vvx_catch X g9 rfl [⟨0, 12, 15, 18⟩, ⟨0, 12, 19, 13⟩] ⟨0, 12, 23, 59⟩ [] rfl (fun z hz => by rcases List.mem_cons.mp hz with rfl | hz; exact Or.inr ⟨by decide, _, q3041, List.mem_of_getElem? (i := 1) rfl⟩; rcases List.mem_cons.mp hz with rfl | hz; exact Or.inr ⟨by decide, _, q3013, List.mem_of_getElem? (i := 2) rfl⟩; exact nomatch hz) rfl (by decide) q3238 q2218 ?_
          exact vv_sub [] (by rfl) (B_X0_renamed_23 X _ _)
        · exact vvx_none
theorem m_X0_renamed {l : Launch} (hl : l.stackTraces = false) {G : va_G} (a1 : Option Nat) (a2 : Int) (a3 : Int) (a4 : Int) (a5 : Option Nat) (h : HP) : ∀ r hf, f_X0_renamed a1 a2 a3 a4 a5 h = some (r, hf) → Ct l yX0_renamed (wsW_ yX0_renamed cX0_renamed 6 (some .int) [(0, 12, 15, 18), (0, 12, 19, 13), (0, 12, 23, 59)]) 10 275 G h [va_rf a1, .int (iI a2), .int (iI a3), .int (iI a4), va_rf a5] (jI r) hf :=
  zz_ofWH hl (by decide +kernel) (lv := [(0, LR a1), (1, LI a2), (2, LI a3), (3, LI a4), (4, LR a5)]) (by simp [lv_args, lvL, lvV, zz_rfc, zz_rfs, zz_ci, zz_cr, zz_cj, zz_cf, zz_cd]) (by simp [lg_sl, zz_rfc, zz_ci, zz_cr, zz_cj, zz_cf, zz_cd]) (fun _ X => A_X0_renamed X a1 a2 a3 a4 a5 h)
-- X9_noLetter RenamedWordsModel.noLetter(II)Z
noncomputable def b_X9_noLetter_16 (x2 : Int) (s0 : Int) (s1 : Option Nat) (h : HP) : Option ((Int) × HP) :=
  (rcv h s1 [7]).bind fun b5 =>
  hb (f_X9_fails b5 s0 x2 h) fun v3 h4 =>
  rtZ v3 (some (v3, h4))
theorem B_X9_noLetter_16 {M : hp_M} {G : va_G} {h0 : HP} (X : hp_X M G h0 "RenamedWordsModel" "noLetter" cX9_noLetter 3 (some .boolean) [] 1 30) (x2 : Int) (s0 : Int) (s1 : Option Nat) (h : HP) : vv M G h0 3 (hp_End M G h0) jI h 16 [(2, LI x2)] [LI s0, LR s1] (b_X9_noLetter_16 x2 s0 s1 h) := by
  unfold b_X9_noLetter_16
  refine vv_iload_n (pc := 16) X (kf := 2) (i := 2) rfl 0 rfl dX9_noLetter_16 ?_
  refine vv_rcv (fun b5 t9 c9 fs9 e6 g9 k9 => ?_)
  cases List.mem_singleton.mp k9
  refine vv_callI (pc := 17) (rest := []) (by rw [e6]; rfl) (fun r8 k8 e8 => zz_callV X (m_X9_fails (hlM X) _ _ _ _ _ _ e8) g9 rfl rfl q3841 q3843 qs109 q164 q3844 nh_X9 rfl (by decide) (by decide) (Nat.le_of_ble_eq_true rfl) dX9_noLetter_17) (fun v3 h4 => ?_)
  exact vv_iretZ X rfl rfl dX9_noLetter_20
noncomputable def f_X9_noLetter (a0 : Nat) (a1 : Int) (a2 : Int) (h : HP) : Option ((Int) × HP) :=
  hb (f_X9_in a1 0 25 h) fun v1 h2 =>
  iEQ v1 0
    (b_X9_noLetter_16 a2 1 (some a0) h2)
    (b_X9_noLetter_16 a2 0 (some a0) h2)
theorem A_X9_noLetter {M : hp_M} {G : va_G} {h0 : HP} (X : hp_X M G h0 "RenamedWordsModel" "noLetter" cX9_noLetter 3 (some .boolean) [] 1 30) (a0 : Nat) (a1 : Int) (a2 : Int) (h : HP) : vv M G h0 3 (hp_End M G h0) jI h 0 [(0, LR (some a0)), (1, LI a1), (2, LI a2)] [] (f_X9_noLetter a0 a1 a2 h) := by
  unfold f_X9_noLetter
  refine vv_aload_n (pc := 0) X (kf := 0) (i := 0) rfl 0 rfl dX9_noLetter_0 ?_
  refine vv_iload_n (pc := 1) X (kf := 1) (i := 1) rfl 1 rfl dX9_noLetter_1 ?_
  refine vv_iconst (pc := 2) X dX9_noLetter_2 ?_
  refine vv_bipush (pc := 3) X (by decide) dX9_noLetter_3 ?_
  refine vv_callI (pc := 5) (rest := [LR (some a0)]) (by rfl) (fun r8 k8 e8 => zz_callS X (m_X9_in (hlM X) _ _ _ _ _ _ e8) q3593 q3594 q164 q3595 nh_X9 rfl (by decide) (by decide) (Nat.le_of_ble_eq_true rfl) dX9_noLetter_5) (fun v1 h2 => ?_)
  refine vv_if_ne (pc := 8) (tgt := 15) X dX9_noLetter_8 rfl ?_ ?_
  · refine vv_iconst (pc := 15) X dX9_noLetter_15 ?_
    exact vv_sub [2] (by rfl) (B_X9_noLetter_16 X _ _ _ _)
  · refine vv_iconst (pc := 11) X dX9_noLetter_11 ?_
    refine vv_goto (pc := 12) (tgt := 16) X dX9_noLetter_12 rfl ?_
    exact vv_sub [2] (by rfl) (B_X9_noLetter_16 X _ _ _ _)
theorem m_X9_noLetter {l : Launch} (hl : l.stackTraces = false) {G : va_G} (a0 : Nat) (a1 : Int) (a2 : Int) (h : HP) : ∀ r hf, f_X9_noLetter a0 a1 a2 h = some (r, hf) → Ct l yX9_noLetter (ws_ yX9_noLetter cX9_noLetter 3 (some .boolean)) 1 30 G h [.ref a0, .int (iI a1), .int (iI a2)] (jI r) hf :=
  zz_ofW hl (by decide +kernel) (lv := [(0, LR (some a0)), (1, LI a1), (2, LI a2)]) (by simp [lv_args, lvL, lvV, zz_rfc, zz_rfs, zz_ci, zz_cr, zz_cj, zz_cf, zz_cd]) (by simp [lg_sl, zz_rfc, zz_ci, zz_cr, zz_cj, zz_cf, zz_cd]) (fun _ X => A_X9_noLetter X a0 a1 a2 h)
