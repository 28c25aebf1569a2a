/-! STAGE 1c: functions and contracts (printed by gen/mkfuncs.py). -/
set_option maxRecDepth 100000
set_option linter.unusedVariables false
-- J11_init_2 java/lang/String.<init>(Ljava/lang/AbstractStringBuilder;Ljava/lang/Void;)V
noncomputable def b_J11_init_2_97 (h : HP) : Option ((Unit) × HP) :=
  some ((), h)
theorem B_J11_init_2_97 {M : hp_M} {G : va_G} {h0 : HP} (X : hp_X M G h0 "java/lang/String" "<init>" cJ11_init_2 5 none [] 3 162) (h : HP) : vv M G h0 5 (hp_End M G h0) jV h 97 [] [] (b_J11_init_2_97 h) := by
  unfold b_J11_init_2_97
  exact vv_vreturn X rfl rfl dJ11_init_2_97
noncomputable def b_J11_init_2_79 (x0 : Option Nat) (x3 : Option Nat) (x4 : Int) (h : HP) : Option ((Unit) × HP) :=
  (wrB h x0 [26] 1 1).bind fun h13 =>
  hb (f_J15_copyOfRange x3 0 (iShl x4 1) h13) fun v14 h15 =>
  (wrR h15 x0 [26] 0 v14).bind fun h16 =>
  b_J11_init_2_97 h16
theorem B_J11_init_2_79 {M : hp_M} {G : va_G} {h0 : HP} (X : hp_X M G h0 "java/lang/String" "<init>" cJ11_init_2 5 none [] 3 162) (x0 : Option Nat) (x3 : Option Nat) (x4 : Int) (h : HP) : vv M G h0 5 (hp_End M G h0) jV h 79 [(0, LR x0), (3, LR x3), (4, LI x4)] [] (b_J11_init_2_79 x0 x3 x4 h) := by
  unfold b_J11_init_2_79
  refine vv_aload_n (pc := 79) X (kf := 0) (i := 0) rfl 0 rfl dJ11_init_2_79 ?_
  refine vv_iconst (pc := 80) X dJ11_init_2_80 ?_
  refine vv_putB (pc := 81) (fin := true) X (fun _ z => by cases List.mem_singleton.mp z; exact fl_J11_15_26) (fun _ => rfl) (fun _ => (fun _ z => by cases List.mem_singleton.mp z; exact ⟨_, rfl, rfl⟩)) dJ11_init_2_81 (fun h13 => ?_)
  refine vv_aload_n (pc := 84) X (kf := 0) (i := 0) rfl 0 rfl dJ11_init_2_84 ?_
  refine vv_aload_n (pc := 85) X (kf := 3) (i := 3) rfl 1 rfl dJ11_init_2_85 ?_
  refine vv_iconst (pc := 86) X dJ11_init_2_86 ?_
  refine vv_iload (pc := 87) X 2 rfl dJ11_init_2_87 ?_
  refine vv_iconst (pc := 89) X dJ11_init_2_89 ?_
  refine vv_ishl (pc := 90) X dJ11_init_2_90 ?_
  refine vv_callR (pc := 91) (rest := [LR x0]) (by rfl) (fun r8 k8 e8 => zz_callS X (m_J15_copyOfRange (hlM X) _ _ _ _ _ _ e8) q523 q524 q150 q525 nh_J15 rfl (by decide) (by decide) (Nat.le_of_ble_eq_true rfl) dJ11_init_2_91) (fun v14 h15 => ?_)
  refine vv_putR (pc := 94) (ty9 := (.array .byte)) (fin := true) X (fun _ z => by cases List.mem_singleton.mp z; exact fl_J11_9_26) (fun _ => rfl) (fun _ => (fun _ z => by cases List.mem_singleton.mp z; exact ⟨_, rfl, rfl⟩)) (by decide +kernel) rfl dJ11_init_2_94 (fun h16 => ?_)
  exact vv_sub [] (by rfl) (B_J11_init_2_97 X _)
noncomputable def f_J11_init_2 (a0 : Nat) (a1 : Option Nat) (a2 : Option Nat) (h : HP) : Option ((Unit) × HP) :=
  (rcv h a1 [25]).bind fun b3 =>
  hb (f_J9_getValue b3 h) fun v1 h2 =>
  (rcv h2 a1 [25]).bind fun b7 =>
  hb (f_J10_length b7 h2) fun v5 h6 =>
  (rcv h6 a1 [25]).bind fun b11 =>
  hb (f_J9_isLatin1 b11 h6) fun v9 h10 =>
  iEQ v9 0
    (iEQ 1 0
      (b_J11_init_2_79 (some a0) v1 v5 h10)
      ((rdI h10 a1 [25] 2).bind fun v17 =>
      iEQ v17 0
        (b_J11_init_2_79 (some a0) v1 v5 h10)
        (none)))
    ((wrB h10 (some a0) [26] 1 0).bind fun h18 =>
    hb (f_J15_copyOfRange v1 0 v5 h18) fun v19 h20 =>
    (wrR h20 (some a0) [26] 0 v19).bind fun h21 =>
    b_J11_init_2_97 h21)
theorem A_J11_init_2 {M : hp_M} {G : va_G} {h0 : HP} (X : hp_X M G h0 "java/lang/String" "<init>" cJ11_init_2 5 none [] 3 162) (a0 : Nat) (a1 : Option Nat) (a2 : Option Nat) (h : HP) : vv M G h0 5 (hp_End M G h0) jV h 0 [(0, LR (some a0)), (1, LR a1), (2, LR a2)] [] (f_J11_init_2 a0 a1 a2 h) := by
  unfold f_J11_init_2
  refine vv_aload_n (pc := 0) X (kf := 0) (i := 0) rfl 0 rfl dJ11_init_2_0 ?_
  refine vv_objInit (pc := 1) X rfl q508 q212 q213 (by decide) (by decide) (Nat.le_of_ble_eq_true rfl) dJ11_init_2_1 ?_
  refine vv_aload_n (pc := 4) X (kf := 1) (i := 1) rfl 1 rfl dJ11_init_2_4 ?_
  refine vv_rcv (fun b3 t9 c9 fs9 e4 g9 k9 => ?_)
  cases List.mem_singleton.mp k9
  refine vv_callR (pc := 5) (rest := []) (by rw [e4]; rfl) (fun r8 k8 e8 => zz_callW X (m_J9_getValue (hlM X) _ _ _ _ e8) g9 rfl q509 q510 q512 q144 q513 nh_J9 rfl (by decide) (by decide) (Nat.le_of_ble_eq_true rfl) dJ11_init_2_5) (fun v1 h2 => ?_)
  refine vv_astore_n (pc := 8) (lv' := [(3, LR v1), (0, LR (some a0)), (1, LR a1), (2, LR a2)]) X (kf := 3) (i := 3) rfl (by decide) rfl dJ11_init_2_8 ?_
  refine vv_aload_n (pc := 9) X (kf := 1) (i := 1) rfl 2 rfl dJ11_init_2_9 ?_
  refine vv_rcv (fun b7 t9 c9 fs9 e8 g9 k9 => ?_)
  cases List.mem_singleton.mp k9
  refine vv_callI (pc := 10) (rest := []) (by rw [e8]; rfl) (fun r8 k8 e8 => zz_callU X (m_J10_length (hlM X) _ _ _ _ e8) g9 rfl q514 q516 (va_Decl.of (X.1.2.2.2.2 _ q515) (X.1.2.2.2.2 _ q521)) (by decide) q518 q517 q145 q519 rfl (by decide) (by decide) (Nat.le_of_ble_eq_true rfl) dJ11_init_2_10) (fun v5 h6 => ?_)
  refine vv_istore (pc := 13) (lv' := [(4, LI v5), (3, LR v1), (0, LR (some a0)), (1, LR a1), (2, LR a2)]) X (by decide) rfl dJ11_init_2_13 ?_
  refine vv_aload_n (pc := 15) X (kf := 1) (i := 1) rfl 3 rfl dJ11_init_2_15 ?_
  refine vv_rcv (fun b11 t9 c9 fs9 e12 g9 k9 => ?_)
  cases List.mem_singleton.mp k9
  refine vv_callI (pc := 16) (rest := []) (by rw [e12]; rfl) (fun r8 k8 e8 => zz_callW X (m_J9_isLatin1 (hlM X) _ _ _ _ e8) g9 rfl q522 q398 q400 q144 q401 nh_J9 rfl (by decide) (by decide) (Nat.le_of_ble_eq_true rfl) dJ11_init_2_16) (fun v9 h10 => ?_)
  refine vv_if_eq (pc := 19) (tgt := 41) X dJ11_init_2_19 rfl ?_ ?_
  · refine vv_gets (pc := 41) (w := LI 1) X (gs_0 _) rfl q436 dJ11_init_2_41 ?_
    refine vv_if_eq (pc := 44) (tgt := 79) X dJ11_init_2_44 rfl ?_ ?_
    · exact vv_sub [2, 1, 0] (by rfl) (B_J11_init_2_79 X _ _ _ _)
    · refine vv_aload_n (pc := 47) X (kf := 1) (i := 1) rfl 3 rfl dJ11_init_2_47 ?_
      refine vv_getI (pc := 48) X (fun _ z => by cases List.mem_singleton.mp z; exact fl_J11_1048_25) dJ11_init_2_48 (fun v17 => ?_)
      refine vv_if_eq (pc := 51) (tgt := 79) X dJ11_init_2_51 rfl ?_ ?_
      · exact vv_sub [2, 1, 0] (by rfl) (B_J11_init_2_79 X _ _ _ _)
      · refine vv_aload_n (pc := 54) X (kf := 0) (i := 0) rfl 2 rfl dJ11_init_2_54 ?_
        refine vv_aload_n (pc := 55) X (kf := 3) (i := 3) rfl 1 rfl dJ11_init_2_55 ?_
        refine vv_iconst (pc := 56) X dJ11_init_2_56 ?_
        refine vv_iload (pc := 57) X 0 rfl dJ11_init_2_57 ?_
        exact vv_none
  · refine vv_aload_n (pc := 22) X (kf := 0) (i := 0) rfl 2 rfl dJ11_init_2_22 ?_
    refine vv_iconst (pc := 23) X dJ11_init_2_23 ?_
    refine vv_putB (pc := 24) (fin := true) X (fun _ z => by cases List.mem_singleton.mp z; exact fl_J11_15_26) (fun _ => rfl) (fun _ => (fun _ z => by cases List.mem_singleton.mp z; exact ⟨_, rfl, rfl⟩)) dJ11_init_2_24 (fun h18 => ?_)
    refine vv_aload_n (pc := 27) X (kf := 0) (i := 0) rfl 2 rfl dJ11_init_2_27 ?_
    refine vv_aload_n (pc := 28) X (kf := 3) (i := 3) rfl 1 rfl dJ11_init_2_28 ?_
    refine vv_iconst (pc := 29) X dJ11_init_2_29 ?_
    refine vv_iload (pc := 30) X 0 rfl dJ11_init_2_30 ?_
    refine vv_callR (pc := 32) (rest := [LR (some a0)]) (by rfl) (fun r8 k8 e8 => zz_callS X (m_J15_copyOfRange (hlM X) _ _ _ _ _ _ e8) q523 q524 q150 q525 nh_J15 rfl (by decide) (by decide) (Nat.le_of_ble_eq_true rfl) dJ11_init_2_32) (fun v19 h20 => ?_)
    refine vv_putR (pc := 35) (ty9 := (.array .byte)) (fin := true) X (fun _ z => by cases List.mem_singleton.mp z; exact fl_J11_9_26) (fun _ => rfl) (fun _ => (fun _ z => by cases List.mem_singleton.mp z; exact ⟨_, rfl, rfl⟩)) (by decide +kernel) rfl dJ11_init_2_35 (fun h21 => ?_)
    refine vv_goto (pc := 38) (tgt := 97) X dJ11_init_2_38 rfl ?_
    exact vv_sub [] (by rfl) (B_J11_init_2_97 X _)
theorem m_J11_init_2 {l : Launch} (hl : l.stackTraces = false) {G : va_G} (a0 : Nat) (a1 : Option Nat) (a2 : Option Nat) (h : HP) : ∀ r hf, f_J11_init_2 a0 a1 a2 h = some (r, hf) → Ct l yJ11_init_2 (ws_ yJ11_init_2 cJ11_init_2 5 none) 3 162 G h [.ref a0, va_rf a1, va_rf a2] (jV r) hf :=
  zz_ofW hl (by decide +kernel) (lv := [(0, LR (some a0)), (1, LR a1), (2, LR a2)]) (by simp [lv_args, lvL, lvV, zz_rfc, zz_rfs, zz_ci, zz_cr, zz_cj, zz_cf, zz_cd]) (by simp [lg_sl, zz_rfc, zz_ci, zz_cr, zz_cj, zz_cf, zz_cd]) (fun _ X => A_J11_init_2 X a0 a1 a2 h)
-- J11_init java/lang/String.<init>(Ljava/lang/StringBuilder;)V
noncomputable def f_J11_init (a0 : Nat) (a1 : Option Nat) (h : HP) : Option ((Unit) × HP) :=
  hb (f_J11_init_2 a0 a1 none h) fun _ h2 =>
  some ((), h2)
theorem A_J11_init {M : hp_M} {G : va_G} {h0 : HP} (X : hp_X M G h0 "java/lang/String" "<init>" cJ11_init 2 none [] 4 194) (a0 : Nat) (a1 : Option Nat) (h : HP) : vv M G h0 2 (hp_End M G h0) jV h 0 [(0, LR (some a0)), (1, LR a1)] [] (f_J11_init a0 a1 h) := by
  unfold f_J11_init
  refine vv_aload_n (pc := 0) X (kf := 0) (i := 0) rfl 0 rfl dJ11_init_0 ?_
  refine vv_aload_n (pc := 1) X (kf := 1) (i := 1) rfl 1 rfl dJ11_init_1 ?_
  refine vv_null (pc := 2) X dJ11_init_2 ?_
  refine vv_callV (pc := 3) (rest := []) (by rfl) (fun r8 k8 e8 => zz_callI X (m_J11_init_2 (hlM X) _ _ _ _ _ _ e8) q505 q506 q146 q507 rfl nh_J11 rfl (by decide) (by decide) (Nat.le_of_ble_eq_true rfl) dJ11_init_3) (fun v1 h2 => ?_)
  exact vv_vreturn X rfl rfl dJ11_init_6
theorem m_J11_init {l : Launch} (hl : l.stackTraces = false) {G : va_G} (a0 : Nat) (a1 : Option Nat) (h : HP) : ∀ r hf, f_J11_init a0 a1 h = some (r, hf) → Ct l yJ11_init (ws_ yJ11_init cJ11_init 2 none) 4 194 G h [.ref a0, va_rf a1] (jV r) hf :=
  zz_ofW hl (by decide +kernel) (lv := [(0, LR (some a0)), (1, LR a1)]) (by simp [lv_args, lvL, lvV, zz_rfc, zz_rfs, zz_ci, zz_cr, zz_cj, zz_cf, zz_cd]) (by simp [lg_sl, zz_rfc, zz_ci, zz_cr, zz_cj, zz_cf, zz_cd]) (fun _ X => A_J11_init X a0 a1 h)
-- J10_toString java/lang/StringBuilder.toString()Ljava/lang/String;
noncomputable def f_J10_toString (a0 : Nat) (h : HP) : Option ((Option Nat) × HP) :=
  hb (nwO h 0 26 [.inr (.inl none), .inl 0, .inl 0, .inl 0] 4) fun v1 h2 =>
  (v1).bind fun b5 =>
  hb (f_J11_init b5 (some a0) h2) fun _ h4 =>
  some (v1, h4)
theorem A_J10_toString {M : hp_M} {G : va_G} {h0 : HP} (X : hp_X M G h0 "java/lang/StringBuilder" "toString" cJ10_toString 1 (some (.object "java/lang/String")) [] 5 223) (a0 : Nat) (h : HP) : vv M G h0 1 (hp_End M G h0) jR h 0 [(0, LR (some a0))] [] (f_J10_toString a0 h) := by
  unfold f_J10_toString
  refine vv_new (pc := 0) tyJ11 X rfl in_J11 tyJ11_ok q500 q501 q146 ndJ11 (by decide) dJ10_toString_0 (fun v1 h2 => ?_)
  refine vv_dup (pc := 3) X rfl dJ10_toString_3 ?_
  refine vv_aload_n (pc := 4) X (kf := 0) (i := 0) rfl 0 rfl dJ10_toString_4 ?_
  refine vv_bnd (fun b5 e6 => ?_)
  refine vv_callV (pc := 5) (rest := [LR v1]) (by rw [e6]; rfl) (fun r8 k8 e8 => zz_callI X (m_J11_init (hlM X) _ _ _ _ _ e8) q502 q503 q146 q504 rfl nh_J11 rfl (by decide) (by decide) (Nat.le_of_ble_eq_true rfl) dJ10_toString_5) (fun v3 h4 => ?_)
  exact vv_aretO X rfl rfl dJ10_toString_8
theorem m_J10_toString {l : Launch} (hl : l.stackTraces = false) {G : va_G} (a0 : Nat) (h : HP) : ∀ r hf, f_J10_toString a0 h = some (r, hf) → Ct l yJ10_toString (ws_ yJ10_toString cJ10_toString 1 (some (.object "java/lang/String"))) 5 223 G h [.ref a0] (jR r) hf :=
  zz_ofW hl (by decide +kernel) (lv := [(0, LR (some a0))]) (by simp [lv_args, lvL, lvV, zz_rfc, zz_rfs, zz_ci, zz_cr, zz_cj, zz_cf, zz_cd]) (by simp [lg_sl, zz_rfc, zz_ci, zz_cr, zz_cj, zz_cf, zz_cd]) (fun _ X => A_J10_toString X a0 h)
-- J13_hugeLength jdk/internal/util/ArraysSupport.hugeLength(II)I
noncomputable def f_J13_hugeLength (a1 : Int) (a2 : Int) (h : HP) : Option ((Int) × HP) :=
  iLE 0 (a1 + a2)
    (iLT 2147483639 (a1 + a2)
      (some ((a1 + a2), h))
      (some (2147483639, h)))
    (none)
theorem A_J13_hugeLength {M : hp_M} {G : va_G} {h0 : HP} (X : hp_X M G h0 "jdk/internal/util/ArraysSupport" "hugeLength" cJ13_hugeLength 3 (some .int) [] 0 0) (a1 : Int) (a2 : Int) (h : HP) : vv M G h0 3 (hp_End M G h0) jI h 0 [(0, LI a1), (1, LI a2)] [] (f_J13_hugeLength a1 a2 h) := by
  unfold f_J13_hugeLength
  refine vv_iload_n (pc := 0) X (kf := 0) (i := 0) rfl 0 rfl dJ13_hugeLength_0 ?_
  refine vv_iload_n (pc := 1) X (kf := 1) (i := 1) rfl 1 rfl dJ13_hugeLength_1 ?_
  refine vv_iadd (pc := 2) X dJ13_hugeLength_2 ?_
  refine vv_istore_n (pc := 3) (lv' := [(2, LI (a1 + a2)), (0, LI a1), (1, LI a2)]) X (kf := 2) (i := 2) rfl (by decide) rfl dJ13_hugeLength_3 ?_
  refine vv_iload_n (pc := 4) X (kf := 2) (i := 2) rfl 0 rfl dJ13_hugeLength_4 ?_
  refine vv_if_ge (pc := 5) (tgt := 49) X dJ13_hugeLength_5 rfl ?_ ?_
  · refine vv_iload_n (pc := 49) X (kf := 2) (i := 2) rfl 0 rfl dJ13_hugeLength_49 ?_
    refine vv_ldcI (pc := 50) (n := 2147483639) X q376 (by decide) dJ13_hugeLength_50 ?_
    refine vv_icmp_gt (pc := 52) (tgt := 58) X dJ13_hugeLength_52 rfl ?_ ?_
    · refine vv_iload_n (pc := 58) X (kf := 2) (i := 2) rfl 0 rfl dJ13_hugeLength_58 ?_
      exact vv_iretI X rfl rfl dJ13_hugeLength_59
    · refine vv_ldcI (pc := 55) (n := 2147483639) X q376 (by decide) dJ13_hugeLength_55 ?_
      exact vv_iretI X rfl rfl dJ13_hugeLength_57
  · exact vv_none
theorem m_J13_hugeLength {l : Launch} (hl : l.stackTraces = false) {G : va_G} (a1 : Int) (a2 : Int) (h : HP) : ∀ r hf, f_J13_hugeLength a1 a2 h = some (r, hf) → Ct l yJ13_hugeLength (ws_ yJ13_hugeLength cJ13_hugeLength 3 (some .int)) 0 0 G h [.int (iI a1), .int (iI a2)] (jI r) hf :=
  zz_ofW hl (by decide +kernel) (lv := [(0, LI a1), (1, LI a2)]) (by simp [lv_args, lvL, lvV, zz_rfc, zz_rfs, zz_ci, zz_cr, zz_cj, zz_cf, zz_cd]) (by simp [lg_sl, zz_rfc, zz_ci, zz_cr, zz_cj, zz_cf, zz_cd]) (fun _ X => A_J13_hugeLength X a1 a2 h)
-- J13_newLength jdk/internal/util/ArraysSupport.newLength(III)I
noncomputable def b_J13_newLength_21 (x0 : Int) (x1 : Int) (h : HP) : Option ((Int) × HP) :=
  hb (f_J13_hugeLength x0 x1 h) fun v3 h4 =>
  some (v3, h4)
theorem B_J13_newLength_21 {M : hp_M} {G : va_G} {h0 : HP} (X : hp_X M G h0 "jdk/internal/util/ArraysSupport" "newLength" cJ13_newLength 4 (some .int) [] 1 30) (x0 : Int) (x1 : Int) (h : HP) : vv M G h0 4 (hp_End M G h0) jI h 21 [(0, LI x0), (1, LI x1)] [] (b_J13_newLength_21 x0 x1 h) := by
  unfold b_J13_newLength_21
  refine vv_iload_n (pc := 21) X (kf := 0) (i := 0) rfl 0 rfl dJ13_newLength_21 ?_
  refine vv_iload_n (pc := 22) X (kf := 1) (i := 1) rfl 1 rfl dJ13_newLength_22 ?_
  refine vv_callI (pc := 23) (rest := []) (by rfl) (fun r8 k8 e8 => zz_callS X (m_J13_hugeLength (hlM X) _ _ _ _ _ e8) q377 q378 q148 q379 nh_J13 rfl (by decide) (by decide) (Nat.le_of_ble_eq_true rfl) dJ13_newLength_23) (fun v3 h4 => ?_)
  exact vv_iretI X rfl rfl dJ13_newLength_26
noncomputable def f_J13_newLength (a1 : Int) (a2 : Int) (a3 : Int) (h : HP) : Option ((Int) × HP) :=
  hb (f_J14_max a2 a3 h) fun v1 h2 =>
  iLE (a1 + v1) 0
    (b_J13_newLength_21 a1 a2 h2)
    (iLT 2147483639 (a1 + v1)
      (b_J13_newLength_21 a1 a2 h2)
      (some ((a1 + v1), h2)))
theorem A_J13_newLength {M : hp_M} {G : va_G} {h0 : HP} (X : hp_X M G h0 "jdk/internal/util/ArraysSupport" "newLength" cJ13_newLength 4 (some .int) [] 1 30) (a1 : Int) (a2 : Int) (a3 : Int) (h : HP) : vv M G h0 4 (hp_End M G h0) jI h 0 [(0, LI a1), (1, LI a2), (2, LI a3)] [] (f_J13_newLength a1 a2 a3 h) := by
  unfold f_J13_newLength
  refine vv_iload_n (pc := 0) X (kf := 0) (i := 0) rfl 0 rfl dJ13_newLength_0 ?_
  refine vv_iload_n (pc := 1) X (kf := 1) (i := 1) rfl 1 rfl dJ13_newLength_1 ?_
  refine vv_iload_n (pc := 2) X (kf := 2) (i := 2) rfl 2 rfl dJ13_newLength_2 ?_
  refine vv_callI (pc := 3) (rest := [LI a1]) (by rfl) (fun r8 k8 e8 => zz_callS X (m_J14_max (hlM X) _ _ _ _ _ e8) q373 q374 q149 q375 nh_J14 rfl (by decide) (by decide) (Nat.le_of_ble_eq_true rfl) dJ13_newLength_3) (fun v1 h2 => ?_)
  refine vv_iadd (pc := 6) X dJ13_newLength_6 ?_
  refine vv_istore_n (pc := 7) (lv' := [(3, LI (a1 + v1)), (0, LI a1), (1, LI a2), (2, LI a3)]) X (kf := 3) (i := 3) rfl (by decide) rfl dJ13_newLength_7 ?_
  refine vv_iconst (pc := 8) X dJ13_newLength_8 ?_
  refine vv_iload_n (pc := 9) X (kf := 3) (i := 3) rfl 0 rfl dJ13_newLength_9 ?_
  refine vv_icmp_ge (pc := 10) (tgt := 21) X dJ13_newLength_10 rfl ?_ ?_
  · exact vv_sub [1, 2] (by rfl) (B_J13_newLength_21 X _ _ _)
  · refine vv_iload_n (pc := 13) X (kf := 3) (i := 3) rfl 0 rfl dJ13_newLength_13 ?_
    refine vv_ldcI (pc := 14) (n := 2147483639) X q376 (by decide) dJ13_newLength_14 ?_
    refine vv_icmp_gt (pc := 16) (tgt := 21) X dJ13_newLength_16 rfl ?_ ?_
    · exact vv_sub [1, 2] (by rfl) (B_J13_newLength_21 X _ _ _)
    · refine vv_iload_n (pc := 19) X (kf := 3) (i := 3) rfl 0 rfl dJ13_newLength_19 ?_
      exact vv_iretI X rfl rfl dJ13_newLength_20
theorem m_J13_newLength {l : Launch} (hl : l.stackTraces = false) {G : va_G} (a1 : Int) (a2 : Int) (a3 : Int) (h : HP) : ∀ r hf, f_J13_newLength a1 a2 a3 h = some (r, hf) → Ct l yJ13_newLength (ws_ yJ13_newLength cJ13_newLength 4 (some .int)) 1 30 G h [.int (iI a1), .int (iI a2), .int (iI a3)] (jI r) hf :=
  zz_ofW hl (by decide +kernel) (lv := [(0, LI a1), (1, LI a2), (2, LI a3)]) (by simp [lv_args, lvL, lvV, zz_rfc, zz_rfs, zz_ci, zz_cr, zz_cj, zz_cf, zz_cd]) (by simp [lg_sl, zz_rfc, zz_ci, zz_cr, zz_cj, zz_cf, zz_cd]) (fun _ X => A_J13_newLength X a1 a2 a3 h)
-- J9_newCapacity java/lang/AbstractStringBuilder.newCapacity(I)I
noncomputable def f_J9_newCapacity (a0 : Nat) (a1 : Int) (h : HP) : Option ((Int) × HP) :=
  (rdR h (some a0) [25] 0).bind fun v1 =>
  (alen h v1).bind fun v2 =>
  (rdI h (some a0) [25] 1).bind fun v3 =>
  (rdI h (some a0) [25] 1).bind fun v4 =>
  hb (f_J13_newLength v2 ((iShl a1 v3) - v2) (v2 + (iShl 2 v4)) h) fun v5 h6 =>
  iEQ v5 2147483647
    (none)
    ((rdI h6 (some a0) [25] 1).bind fun v7 =>
    some ((iShr v5 v7), h6))
theorem A_J9_newCapacity {M : hp_M} {G : va_G} {h0 : HP} (X : hp_X M G h0 "java/lang/AbstractStringBuilder" "newCapacity" cJ9_newCapacity 6 (some .int) [] 2 61) (a0 : Nat) (a1 : Int) (h : HP) : vv M G h0 6 (hp_End M G h0) jI h 0 [(0, LR (some a0)), (1, LI a1)] [] (f_J9_newCapacity a0 a1 h) := by
  unfold f_J9_newCapacity
  refine vv_aload_n (pc := 0) X (kf := 0) (i := 0) rfl 0 rfl dJ9_newCapacity_0 ?_
  refine vv_getR (pc := 1) X (fun _ z => by cases List.mem_singleton.mp z; exact fl_J9_15_25) dJ9_newCapacity_1 (fun v1 => ?_)
  refine vv_alen (pc := 4) X dJ9_newCapacity_4 (fun v2 => ?_)
  refine vv_istore_n (pc := 5) (lv' := [(2, LI v2), (0, LR (some a0)), (1, LI a1)]) X (kf := 2) (i := 2) rfl (by decide) rfl dJ9_newCapacity_5 ?_
  refine vv_iload_n (pc := 6) X (kf := 1) (i := 1) rfl 2 rfl dJ9_newCapacity_6 ?_
  refine vv_aload_n (pc := 7) X (kf := 0) (i := 0) rfl 1 rfl dJ9_newCapacity_7 ?_
  refine vv_getI (pc := 8) X (fun _ z => by cases List.mem_singleton.mp z; exact fl_J9_22_25) dJ9_newCapacity_8 (fun v3 => ?_)
  refine vv_ishl (pc := 11) X dJ9_newCapacity_11 ?_
  refine vv_istore_n (pc := 12) (lv' := [(3, LI (iShl a1 v3)), (2, LI v2), (0, LR (some a0)), (1, LI a1)]) X (kf := 3) (i := 3) rfl (by decide) rfl dJ9_newCapacity_12 ?_
  refine vv_iload_n (pc := 13) X (kf := 3) (i := 3) rfl 0 rfl dJ9_newCapacity_13 ?_
  refine vv_iload_n (pc := 14) X (kf := 2) (i := 2) rfl 1 rfl dJ9_newCapacity_14 ?_
  refine vv_isub (pc := 15) X dJ9_newCapacity_15 ?_
  refine vv_istore (pc := 16) (lv' := [(4, LI ((iShl a1 v3) - v2)), (3, LI (iShl a1 v3)), (2, LI v2), (0, LR (some a0)), (1, LI a1)]) X (by decide) rfl dJ9_newCapacity_16 ?_
  refine vv_iload_n (pc := 18) X (kf := 2) (i := 2) rfl 2 rfl dJ9_newCapacity_18 ?_
  refine vv_iload (pc := 19) X 0 rfl dJ9_newCapacity_19 ?_
  refine vv_iload_n (pc := 21) X (kf := 2) (i := 2) rfl 2 rfl dJ9_newCapacity_21 ?_
  refine vv_iconst (pc := 22) X dJ9_newCapacity_22 ?_
  refine vv_aload_n (pc := 23) X (kf := 0) (i := 0) rfl 3 rfl dJ9_newCapacity_23 ?_
  refine vv_getI (pc := 24) X (fun _ z => by cases List.mem_singleton.mp z; exact fl_J9_22_25) dJ9_newCapacity_24 (fun v4 => ?_)
  refine vv_ishl (pc := 27) X dJ9_newCapacity_27 ?_
  refine vv_iadd (pc := 28) X dJ9_newCapacity_28 ?_
  refine vv_callI (pc := 29) (rest := []) (by rfl) (fun r8 k8 e8 => zz_callS X (m_J13_newLength (hlM X) _ _ _ _ _ _ e8) q370 q371 q148 q372 nh_J13 rfl (by decide) (by decide) (Nat.le_of_ble_eq_true rfl) dJ9_newCapacity_29) (fun v5 h6 => ?_)
  refine vv_istore (pc := 32) (lv' := [(5, LI v5), (4, LI ((iShl a1 v3) - v2)), (3, LI (iShl a1 v3)), (2, LI v2), (0, LR (some a0)), (1, LI a1)]) X (by decide) rfl dJ9_newCapacity_32 ?_
  refine vv_iload (pc := 34) X 0 rfl dJ9_newCapacity_34 ?_
  refine vv_ldcI (pc := 36) (n := 2147483647) X q380 (by decide) dJ9_newCapacity_36 ?_
  refine vv_icmp_ne (pc := 38) (tgt := 51) X dJ9_newCapacity_38 rfl ?_ ?_
  · refine vv_iload (pc := 51) X 0 rfl dJ9_newCapacity_51 ?_
    refine vv_aload_n (pc := 53) X (kf := 0) (i := 0) rfl 4 rfl dJ9_newCapacity_53 ?_
    refine vv_getI (pc := 54) X (fun _ z => by cases List.mem_singleton.mp z; exact fl_J9_22_25) dJ9_newCapacity_54 (fun v7 => ?_)
    refine vv_ishr (pc := 57) X dJ9_newCapacity_57 ?_
    exact vv_iretI X rfl rfl dJ9_newCapacity_58
  · exact vv_none
theorem m_J9_newCapacity {l : Launch} (hl : l.stackTraces = false) {G : va_G} (a0 : Nat) (a1 : Int) (h : HP) : ∀ r hf, f_J9_newCapacity a0 a1 h = some (r, hf) → Ct l yJ9_newCapacity (ws_ yJ9_newCapacity cJ9_newCapacity 6 (some .int)) 2 61 G h [.ref a0, .int (iI a1)] (jI r) hf :=
  zz_ofW hl (by decide +kernel) (lv := [(0, LR (some a0)), (1, LI a1)]) (by simp [lv_args, lvL, lvV, zz_rfc, zz_rfs, zz_ci, zz_cr, zz_cj, zz_cf, zz_cd]) (by simp [lg_sl, zz_rfc, zz_ci, zz_cr, zz_cj, zz_cf, zz_cd]) (fun _ X => A_J9_newCapacity X a0 a1 h)
-- J15_copyOf java/util/Arrays.copyOf([BI)[B
noncomputable def f_J15_copyOf (a1 : Option Nat) (a2 : Int) (h : HP) : Option ((Option Nat) × HP) :=
  (alen h a1).bind fun v1 =>
  iEQ a2 v1
    (hb (clB h a1) fun v8 h9 =>
    (chkA h9 v8 .byte).bind fun _ =>
    some (v8, h9))
    (hb (nwI h (tgR h a1) .byte a2) fun v2 h3 =>
    (alen h3 a1).bind fun v4 =>
    hb (f_J14_min v4 a2 h3) fun v5 h6 =>
    (acpI h6 .byte a1 0 v2 0 v5).bind fun h7 =>
    some (v2, h7))
theorem A_J15_copyOf {M : hp_M} {G : va_G} {h0 : HP} (X : hp_X M G h0 "java/util/Arrays" "copyOf" cJ15_copyOf 3 (some (.array .byte)) [] 1 120) (a1 : Option Nat) (a2 : Int) (h : HP) : vv M G h0 3 (hp_End M G h0) jR h 0 [(0, LR a1), (1, LI a2)] [] (f_J15_copyOf a1 a2 h) := by
  unfold f_J15_copyOf
  refine vv_iload_n (pc := 0) X (kf := 1) (i := 1) rfl 1 rfl dJ15_copyOf_0 ?_
  refine vv_aload_n (pc := 1) X (kf := 0) (i := 0) rfl 0 rfl dJ15_copyOf_1 ?_
  refine vv_alen (pc := 2) X dJ15_copyOf_2 (fun v1 => ?_)
  refine vv_icmp_ne (pc := 3) (tgt := 14) X dJ15_copyOf_3 rfl ?_ ?_
  · refine vv_iload_n (pc := 14) X (kf := 1) (i := 1) rfl 1 rfl dJ15_copyOf_14 ?_
    refine vv_newbyte (pc := 15) X dJ15_copyOf_15 (fun v2 h3 => ?_)
    refine vv_astore_n (pc := 17) (lv' := [(2, LR v2), (0, LR a1), (1, LI a2)]) X (kf := 2) (i := 2) rfl (by decide) rfl dJ15_copyOf_17 ?_
    refine vv_aload_n (pc := 18) X (kf := 0) (i := 0) rfl 1 rfl dJ15_copyOf_18 ?_
    refine vv_iconst (pc := 19) X dJ15_copyOf_19 ?_
    refine vv_aload_n (pc := 20) X (kf := 2) (i := 2) rfl 0 rfl dJ15_copyOf_20 ?_
    refine vv_iconst (pc := 21) X dJ15_copyOf_21 ?_
    refine vv_aload_n (pc := 22) X (kf := 0) (i := 0) rfl 1 rfl dJ15_copyOf_22 ?_
    refine vv_alen (pc := 23) X dJ15_copyOf_23 (fun v4 => ?_)
    refine vv_iload_n (pc := 24) X (kf := 1) (i := 1) rfl 2 rfl dJ15_copyOf_24 ?_
    refine vv_callI (pc := 25) (rest := [LI 0, LR v2, LI 0, LR a1]) (by rfl) (fun r8 k8 e8 => zz_callS X (m_J14_min (hlM X) _ _ _ _ _ e8) q391 q392 q149 q393 nh_J14 rfl (by decide) (by decide) (Nat.le_of_ble_eq_true rfl) dJ15_copyOf_25) (fun v5 h6 => ?_)
    refine vv_arraycopy (pc := 28) X q394 q396 q395 q151 (by decide) (by decide) (Nat.le_of_ble_eq_true rfl) dJ15_copyOf_28 (fun h7 => ?_)
    refine vv_aload_n (pc := 31) X (kf := 2) (i := 2) rfl 0 rfl dJ15_copyOf_31 ?_
    exact vv_aretA X rfl rfl dJ15_copyOf_32
  · refine vv_aload_n (pc := 6) X (kf := 0) (i := 0) rfl 0 rfl dJ15_copyOf_6 ?_
    refine vv_cloneB (pc := 7) X q384 (by decide) (by decide) (Nat.le_of_ble_eq_true rfl) dJ15_copyOf_7 (fun v8 h9 => ?_)
    refine vv_checkcastB (pc := 10) X q390 dJ15_copyOf_10 ?_
    exact vv_aretA X rfl rfl dJ15_copyOf_13
theorem m_J15_copyOf {l : Launch} (hl : l.stackTraces = false) {G : va_G} (a1 : Option Nat) (a2 : Int) (h : HP) : ∀ r hf, f_J15_copyOf a1 a2 h = some (r, hf) → Ct l yJ15_copyOf (ws_ yJ15_copyOf cJ15_copyOf 3 (some (.array .byte))) 1 120 G h [va_rf a1, .int (iI a2)] (jR r) hf :=
  zz_ofW hl (by decide +kernel) (lv := [(0, LR a1), (1, LI a2)]) (by simp [lv_args, lvL, lvV, zz_rfc, zz_rfs, zz_ci, zz_cr, zz_cj, zz_cf, zz_cd]) (by simp [lg_sl, zz_rfc, zz_ci, zz_cr, zz_cj, zz_cf, zz_cd]) (fun _ X => A_J15_copyOf X a1 a2 h)
-- J9_ensureCapacityInternal java/lang/AbstractStringBuilder.ensureCapacityInternal(I)V
noncomputable def b_J9_ensureCapacityInternal_38 (h : HP) : Option ((Unit) × HP) :=
  some ((), h)
theorem B_J9_ensureCapacityInternal_38 {M : hp_M} {G : va_G} {h0 : HP} (X : hp_X M G h0 "java/lang/AbstractStringBuilder" "ensureCapacityInternal" cJ9_ensureCapacityInternal 3 none [] 3 150) (h : HP) : vv M G h0 3 (hp_End M G h0) jV h 38 [] [] (b_J9_ensureCapacityInternal_38 h) := by
  unfold b_J9_ensureCapacityInternal_38
  exact vv_vreturn X rfl rfl dJ9_ensureCapacityInternal_38
noncomputable def f_J9_ensureCapacityInternal (a0 : Nat) (a1 : Int) (h : HP) : Option ((Unit) × HP) :=
  (rdR h (some a0) [25] 0).bind fun v1 =>
  (alen h v1).bind fun v2 =>
  (rdI h (some a0) [25] 1).bind fun v3 =>
  iLE (a1 - (iShr v2 v3)) 0
    (b_J9_ensureCapacityInternal_38 h)
    ((rdR h (some a0) [25] 0).bind fun v4 =>
    (rcv h (some a0) [25]).bind fun b7 =>
    hb (f_J9_newCapacity b7 a1 h) fun v5 h6 =>
    (rdI h6 (some a0) [25] 1).bind fun v9 =>
    hb (f_J15_copyOf v4 (iShl v5 v9) h6) fun v10 h11 =>
    (wrR h11 (some a0) [25] 0 v10).bind fun h12 =>
    b_J9_ensureCapacityInternal_38 h12)
theorem A_J9_ensureCapacityInternal {M : hp_M} {G : va_G} {h0 : HP} (X : hp_X M G h0 "java/lang/AbstractStringBuilder" "ensureCapacityInternal" cJ9_ensureCapacityInternal 3 none [] 3 150) (a0 : Nat) (a1 : Int) (h : HP) : vv M G h0 3 (hp_End M G h0) jV h 0 [(0, LR (some a0)), (1, LI a1)] [] (f_J9_ensureCapacityInternal a0 a1 h) := by
  unfold f_J9_ensureCapacityInternal
  refine vv_aload_n (pc := 0) X (kf := 0) (i := 0) rfl 0 rfl dJ9_ensureCapacityInternal_0 ?_
  refine vv_getR (pc := 1) X (fun _ z => by cases List.mem_singleton.mp z; exact fl_J9_15_25) dJ9_ensureCapacityInternal_1 (fun v1 => ?_)
  refine vv_alen (pc := 4) X dJ9_ensureCapacityInternal_4 (fun v2 => ?_)
  refine vv_aload_n (pc := 5) X (kf := 0) (i := 0) rfl 0 rfl dJ9_ensureCapacityInternal_5 ?_
  refine vv_getI (pc := 6) X (fun _ z => by cases List.mem_singleton.mp z; exact fl_J9_22_25) dJ9_ensureCapacityInternal_6 (fun v3 => ?_)
  refine vv_ishr (pc := 9) X dJ9_ensureCapacityInternal_9 ?_
  refine vv_istore_n (pc := 10) (lv' := [(2, LI (iShr v2 v3)), (0, LR (some a0)), (1, LI a1)]) X (kf := 2) (i := 2) rfl (by decide) rfl dJ9_ensureCapacityInternal_10 ?_
  refine vv_iload_n (pc := 11) X (kf := 1) (i := 1) rfl 2 rfl dJ9_ensureCapacityInternal_11 ?_
  refine vv_iload_n (pc := 12) X (kf := 2) (i := 2) rfl 0 rfl dJ9_ensureCapacityInternal_12 ?_
  refine vv_isub (pc := 13) X dJ9_ensureCapacityInternal_13 ?_
  refine vv_if_le (pc := 14) (tgt := 38) X dJ9_ensureCapacityInternal_14 rfl ?_ ?_
  · exact vv_sub [] (by rfl) (B_J9_ensureCapacityInternal_38 X _)
  · refine vv_aload_n (pc := 17) X (kf := 0) (i := 0) rfl 1 rfl dJ9_ensureCapacityInternal_17 ?_
    refine vv_aload_n (pc := 18) X (kf := 0) (i := 0) rfl 1 rfl dJ9_ensureCapacityInternal_18 ?_
    refine vv_getR (pc := 19) X (fun _ z => by cases List.mem_singleton.mp z; exact fl_J9_15_25) dJ9_ensureCapacityInternal_19 (fun v4 => ?_)
    refine vv_aload_n (pc := 22) X (kf := 0) (i := 0) rfl 1 rfl dJ9_ensureCapacityInternal_22 ?_
    refine vv_iload_n (pc := 23) X (kf := 1) (i := 1) rfl 2 rfl dJ9_ensureCapacityInternal_23 ?_
    refine vv_rcv (fun b7 t9 c9 fs9 e8 g9 k9 => ?_)
    cases List.mem_singleton.mp k9
    refine vv_callI (pc := 24) (rest := [LR v4, LR (some a0)]) (by rw [e8]; rfl) (fun r8 k8 e8 => zz_callP X (m_J9_newCapacity (hlM X) _ _ _ _ _ e8) g9 rfl q366 q368 q367 q512 rfl q144 q369 nh_J9 rfl (by decide) (by decide) (Nat.le_of_ble_eq_true rfl) dJ9_ensureCapacityInternal_24) (fun v5 h6 => ?_)
    refine vv_aload_n (pc := 27) X (kf := 0) (i := 0) rfl 1 rfl dJ9_ensureCapacityInternal_27 ?_
    refine vv_getI (pc := 28) X (fun _ z => by cases List.mem_singleton.mp z; exact fl_J9_22_25) dJ9_ensureCapacityInternal_28 (fun v9 => ?_)
    refine vv_ishl (pc := 31) X dJ9_ensureCapacityInternal_31 ?_
    refine vv_callR (pc := 32) (rest := [LR (some a0)]) (by rfl) (fun r8 k8 e8 => zz_callS X (m_J15_copyOf (hlM X) _ _ _ _ _ e8) q381 q382 q150 q383 nh_J15 rfl (by decide) (by decide) (Nat.le_of_ble_eq_true rfl) dJ9_ensureCapacityInternal_32) (fun v10 h11 => ?_)
    refine vv_putR (pc := 35) (ty9 := (.array .byte)) (fin := false) X (fun _ z => by cases List.mem_singleton.mp z; exact fl_J9_15_25) (fun z => nomatch z) (fun z => nomatch z) (by decide +kernel) rfl dJ9_ensureCapacityInternal_35 (fun h12 => ?_)
    exact vv_sub [] (by rfl) (B_J9_ensureCapacityInternal_38 X _)
theorem m_J9_ensureCapacityInternal {l : Launch} (hl : l.stackTraces = false) {G : va_G} (a0 : Nat) (a1 : Int) (h : HP) : ∀ r hf, f_J9_ensureCapacityInternal a0 a1 h = some (r, hf) → Ct l yJ9_ensureCapacityInternal (ws_ yJ9_ensureCapacityInternal cJ9_ensureCapacityInternal 3 none) 3 150 G h [.ref a0, .int (iI a1)] (jV r) hf :=
  zz_ofW hl (by decide +kernel) (lv := [(0, LR (some a0)), (1, LI a1)]) (by simp [lv_args, lvL, lvV, zz_rfc, zz_rfs, zz_ci, zz_cr, zz_cj, zz_cf, zz_cd]) (by simp [lg_sl, zz_rfc, zz_ci, zz_cr, zz_cj, zz_cf, zz_cd]) (fun _ X => A_J9_ensureCapacityInternal X a0 a1 h)
-- J9_inflateIfNeededFor java/lang/AbstractStringBuilder.inflateIfNeededFor(Ljava/lang/String;)V
noncomputable def b_J9_inflateIfNeededFor_21 (h : HP) : Option ((Unit) × HP) :=
  some ((), h)
theorem B_J9_inflateIfNeededFor_21 {M : hp_M} {G : va_G} {h0 : HP} (X : hp_X M G h0 "java/lang/AbstractStringBuilder" "inflateIfNeededFor" cJ9_inflateIfNeededFor 2 none [] 1 28) (h : HP) : vv M G h0 2 (hp_End M G h0) jV h 21 [] [] (b_J9_inflateIfNeededFor_21 h) := by
  unfold b_J9_inflateIfNeededFor_21
  exact vv_vreturn X rfl rfl dJ9_inflateIfNeededFor_21
noncomputable def f_J9_inflateIfNeededFor (a0 : Nat) (a1 : Option Nat) (h : HP) : Option ((Unit) × HP) :=
  iEQ 1 0
    (b_J9_inflateIfNeededFor_21 h)
    ((rdI h (some a0) [25] 1).bind fun v1 =>
    (rcv h a1 [26]).bind fun b4 =>
    hb (f_J11_coder b4 h) fun v2 h3 =>
    iEQ v1 v2
      (b_J9_inflateIfNeededFor_21 h3)
      (none))
theorem A_J9_inflateIfNeededFor {M : hp_M} {G : va_G} {h0 : HP} (X : hp_X M G h0 "java/lang/AbstractStringBuilder" "inflateIfNeededFor" cJ9_inflateIfNeededFor 2 none [] 1 28) (a0 : Nat) (a1 : Option Nat) (h : HP) : vv M G h0 2 (hp_End M G h0) jV h 0 [(0, LR (some a0)), (1, LR a1)] [] (f_J9_inflateIfNeededFor a0 a1 h) := by
  unfold f_J9_inflateIfNeededFor
  refine vv_gets (pc := 0) (w := LI 1) X (gs_0 _) rfl q327 dJ9_inflateIfNeededFor_0 ?_
  refine vv_if_eq (pc := 3) (tgt := 21) X dJ9_inflateIfNeededFor_3 rfl ?_ ?_
  · exact vv_sub [] (by rfl) (B_J9_inflateIfNeededFor_21 X _)
  · refine vv_aload_n (pc := 6) X (kf := 0) (i := 0) rfl 0 rfl dJ9_inflateIfNeededFor_6 ?_
    refine vv_getI (pc := 7) X (fun _ z => by cases List.mem_singleton.mp z; exact fl_J9_22_25) dJ9_inflateIfNeededFor_7 (fun v1 => ?_)
    refine vv_aload_n (pc := 10) X (kf := 1) (i := 1) rfl 1 rfl dJ9_inflateIfNeededFor_10 ?_
    refine vv_rcv (fun b4 t9 c9 fs9 e5 g9 k9 => ?_)
    cases List.mem_singleton.mp k9
    refine vv_callI (pc := 11) (rest := [LI v1]) (by rw [e5]; rfl) (fun r8 k8 e8 => zz_callV X (m_J11_coder (hlM X) _ _ _ _ e8) g9 rfl rfl q445 q433 q434 q146 q435 nh_J11 rfl (by decide) (by decide) (Nat.le_of_ble_eq_true rfl) dJ9_inflateIfNeededFor_11) (fun v2 h3 => ?_)
    refine vv_icmp_eq (pc := 14) (tgt := 21) X dJ9_inflateIfNeededFor_14 rfl ?_ ?_
    · exact vv_sub [] (by rfl) (B_J9_inflateIfNeededFor_21 X _)
    · refine vv_aload_n (pc := 17) X (kf := 0) (i := 0) rfl 0 rfl dJ9_inflateIfNeededFor_17 ?_
      exact vv_none
theorem m_J9_inflateIfNeededFor {l : Launch} (hl : l.stackTraces = false) {G : va_G} (a0 : Nat) (a1 : Option Nat) (h : HP) : ∀ r hf, f_J9_inflateIfNeededFor a0 a1 h = some (r, hf) → Ct l yJ9_inflateIfNeededFor (ws_ yJ9_inflateIfNeededFor cJ9_inflateIfNeededFor 2 none) 1 28 G h [.ref a0, va_rf a1] (jV r) hf :=
  zz_ofW hl (by decide +kernel) (lv := [(0, LR (some a0)), (1, LR a1)]) (by simp [lv_args, lvL, lvV, zz_rfc, zz_rfs, zz_ci, zz_cr, zz_cj, zz_cf, zz_cd]) (by simp [lg_sl, zz_rfc, zz_ci, zz_cr, zz_cj, zz_cf, zz_cd]) (fun _ X => A_J9_inflateIfNeededFor X a0 a1 h)
-- J17_inflate java/lang/StringLatin1.inflate([BI[BII)V
noncomputable def f_J17_inflate (a1 : Option Nat) (a2 : Int) (a3 : Option Nat) (a4 : Int) (a5 : Int) (h : HP) : Option ((Unit) × HP) :=
  none
theorem A_J17_inflate {M : hp_M} {G : va_G} {h0 : HP} (X : hp_X M G h0 "java/lang/StringLatin1" "inflate" cJ17_inflate 5 none [] 0 0) (a1 : Option Nat) (a2 : Int) (a3 : Option Nat) (a4 : Int) (a5 : Int) (h : HP) : vv M G h0 5 (hp_End M G h0) jV h 0 [(0, LR a1), (1, LI a2), (2, LR a3), (3, LI a4), (4, LI a5)] [] (f_J17_inflate a1 a2 a3 a4 a5 h) := by
  unfold f_J17_inflate
  refine vv_aload_n (pc := 0) X (kf := 0) (i := 0) rfl 0 rfl dJ17_inflate_0 ?_
  refine vv_iload_n (pc := 1) X (kf := 1) (i := 1) rfl 1 rfl dJ17_inflate_1 ?_
  refine vv_aload_n (pc := 2) X (kf := 2) (i := 2) rfl 2 rfl dJ17_inflate_2 ?_
  refine vv_iload_n (pc := 3) X (kf := 3) (i := 3) rfl 3 rfl dJ17_inflate_3 ?_
  refine vv_iload (pc := 4) X 4 rfl dJ17_inflate_4 ?_
  exact vv_none
theorem m_J17_inflate {l : Launch} (hl : l.stackTraces = false) {G : va_G} (a1 : Option Nat) (a2 : Int) (a3 : Option Nat) (a4 : Int) (a5 : Int) (h : HP) : ∀ r hf, f_J17_inflate a1 a2 a3 a4 a5 h = some (r, hf) → Ct l yJ17_inflate (ws_ yJ17_inflate cJ17_inflate 5 none) 0 0 G h [va_rf a1, .int (iI a2), va_rf a3, .int (iI a4), .int (iI a5)] (jV r) hf :=
  zz_ofW hl (by decide +kernel) (lv := [(0, LR a1), (1, LI a2), (2, LR a3), (3, LI a4), (4, LI a5)]) (by simp [lv_args, lvL, lvV, zz_rfc, zz_rfs, zz_ci, zz_cr, zz_cj, zz_cf, zz_cd]) (by simp [lg_sl, zz_rfc, zz_ci, zz_cr, zz_cj, zz_cf, zz_cd]) (fun _ X => A_J17_inflate X a1 a2 a3 a4 a5 h)
-- J11_getBytes java/lang/String.getBytes([BIB)V
noncomputable def b_J11_getBytes_43 (h : HP) : Option ((Unit) × HP) :=
  some ((), h)
theorem B_J11_getBytes_43 {M : hp_M} {G : va_G} {h0 : HP} (X : hp_X M G h0 "java/lang/String" "getBytes" cJ11_getBytes 4 none [] 1 100) (h : HP) : vv M G h0 4 (hp_End M G h0) jV h 43 [] [] (b_J11_getBytes_43 h) := by
  unfold b_J11_getBytes_43
  exact vv_vreturn X rfl rfl dJ11_getBytes_43
noncomputable def f_J11_getBytes (a0 : Nat) (a1 : Option Nat) (a2 : Int) (a3 : Int) (h : HP) : Option ((Unit) × HP) :=
  (rcv h (some a0) [26]).bind fun b3 =>
  hb (f_J11_coder b3 h) fun v1 h2 =>
  iEQ v1 a3
    ((rdR h2 (some a0) [26] 0).bind fun v10 =>
    (rdR h2 (some a0) [26] 0).bind fun v11 =>
    (alen h2 v11).bind fun v12 =>
    (acpI h2 .byte v10 0 a1 (iShl a2 a3) v12).bind fun h13 =>
    b_J11_getBytes_43 h13)
    ((rdR h2 (some a0) [26] 0).bind fun v5 =>
    (rdR h2 (some a0) [26] 0).bind fun v6 =>
    (alen h2 v6).bind fun v7 =>
    hb (f_J17_inflate v5 0 a1 a2 v7 h2) fun _ h9 =>
    b_J11_getBytes_43 h9)
theorem A_J11_getBytes {M : hp_M} {G : va_G} {h0 : HP} (X : hp_X M G h0 "java/lang/String" "getBytes" cJ11_getBytes 4 none [] 1 100) (a0 : Nat) (a1 : Option Nat) (a2 : Int) (a3 : Int) (h : HP) : vv M G h0 4 (hp_End M G h0) jV h 0 [(0, LR (some a0)), (1, LR a1), (2, LI a2), (3, LI a3)] [] (f_J11_getBytes a0 a1 a2 a3 h) := by
  unfold f_J11_getBytes
  refine vv_aload_n (pc := 0) X (kf := 0) (i := 0) rfl 0 rfl dJ11_getBytes_0 ?_
  refine vv_rcv (fun b3 t9 c9 fs9 e4 g9 k9 => ?_)
  cases List.mem_singleton.mp k9
  refine vv_callI (pc := 1) (rest := []) (by rw [e4]; rfl) (fun r8 k8 e8 => zz_callV X (m_J11_coder (hlM X) _ _ _ _ e8) g9 rfl rfl q432 q433 q434 q146 q435 nh_J11 rfl (by decide) (by decide) (Nat.le_of_ble_eq_true rfl) dJ11_getBytes_1) (fun v1 h2 => ?_)
  refine vv_iload_n (pc := 4) X (kf := 3) (i := 3) rfl 3 rfl dJ11_getBytes_4 ?_
  refine vv_icmp_ne (pc := 5) (tgt := 28) X dJ11_getBytes_5 rfl ?_ ?_
  · refine vv_aload_n (pc := 28) X (kf := 0) (i := 0) rfl 0 rfl dJ11_getBytes_28 ?_
    refine vv_getR (pc := 29) X (fun _ z => by cases List.mem_singleton.mp z; exact fl_J11_9_26) dJ11_getBytes_29 (fun v5 => ?_)
    refine vv_iconst (pc := 32) X dJ11_getBytes_32 ?_
    refine vv_aload_n (pc := 33) X (kf := 1) (i := 1) rfl 1 rfl dJ11_getBytes_33 ?_
    refine vv_iload_n (pc := 34) X (kf := 2) (i := 2) rfl 2 rfl dJ11_getBytes_34 ?_
    refine vv_aload_n (pc := 35) X (kf := 0) (i := 0) rfl 0 rfl dJ11_getBytes_35 ?_
    refine vv_getR (pc := 36) X (fun _ z => by cases List.mem_singleton.mp z; exact fl_J11_9_26) dJ11_getBytes_36 (fun v6 => ?_)
    refine vv_alen (pc := 39) X dJ11_getBytes_39 (fun v7 => ?_)
    refine vv_callV (pc := 40) (rest := []) (by rfl) (fun r8 k8 e8 => zz_callS X (m_J17_inflate (hlM X) _ _ _ _ _ _ _ _ e8) q470 q451 q153 q452 nh_J17 rfl (by decide) (by decide) (Nat.le_of_ble_eq_true rfl) dJ11_getBytes_40) (fun v8 h9 => ?_)
    exact vv_sub [] (by rfl) (B_J11_getBytes_43 X _)
  · refine vv_aload_n (pc := 8) X (kf := 0) (i := 0) rfl 0 rfl dJ11_getBytes_8 ?_
    refine vv_getR (pc := 9) X (fun _ z => by cases List.mem_singleton.mp z; exact fl_J11_9_26) dJ11_getBytes_9 (fun v10 => ?_)
    refine vv_iconst (pc := 12) X dJ11_getBytes_12 ?_
    refine vv_aload_n (pc := 13) X (kf := 1) (i := 1) rfl 1 rfl dJ11_getBytes_13 ?_
    refine vv_iload_n (pc := 14) X (kf := 2) (i := 2) rfl 2 rfl dJ11_getBytes_14 ?_
    refine vv_iload_n (pc := 15) X (kf := 3) (i := 3) rfl 3 rfl dJ11_getBytes_15 ?_
    refine vv_ishl (pc := 16) X dJ11_getBytes_16 ?_
    refine vv_aload_n (pc := 17) X (kf := 0) (i := 0) rfl 0 rfl dJ11_getBytes_17 ?_
    refine vv_getR (pc := 18) X (fun _ z => by cases List.mem_singleton.mp z; exact fl_J11_9_26) dJ11_getBytes_18 (fun v11 => ?_)
    refine vv_alen (pc := 21) X dJ11_getBytes_21 (fun v12 => ?_)
    refine vv_arraycopy (pc := 22) X q469 q396 q395 q151 (by decide) (by decide) (Nat.le_of_ble_eq_true rfl) dJ11_getBytes_22 (fun h13 => ?_)
    refine vv_goto (pc := 25) (tgt := 43) X dJ11_getBytes_25 rfl ?_
    exact vv_sub [] (by rfl) (B_J11_getBytes_43 X _)
theorem m_J11_getBytes {l : Launch} (hl : l.stackTraces = false) {G : va_G} (a0 : Nat) (a1 : Option Nat) (a2 : Int) (a3 : Int) (h : HP) : ∀ r hf, f_J11_getBytes a0 a1 a2 a3 h = some (r, hf) → Ct l yJ11_getBytes (ws_ yJ11_getBytes cJ11_getBytes 4 none) 1 100 G h [.ref a0, va_rf a1, .int (iI a2), .int (iI a3)] (jV r) hf :=
  zz_ofW hl (by decide +kernel) (lv := [(0, LR (some a0)), (1, LR a1), (2, LI a2), (3, LI a3)]) (by simp [lv_args, lvL, lvV, zz_rfc, zz_rfs, zz_ci, zz_cr, zz_cj, zz_cf, zz_cd]) (by simp [lg_sl, zz_rfc, zz_ci, zz_cr, zz_cj, zz_cf, zz_cd]) (fun _ X => A_J11_getBytes X a0 a1 a2 a3 h)
-- J9_putStringAt java/lang/AbstractStringBuilder.putStringAt(ILjava/lang/String;)V
noncomputable def f_J9_putStringAt (a0 : Nat) (a1 : Int) (a2 : Option Nat) (h : HP) : Option ((Unit) × HP) :=
  (rcv h (some a0) [25]).bind fun b3 =>
  hb (f_J9_inflateIfNeededFor b3 a2 h) fun _ h2 =>
  (rdR h2 (some a0) [25] 0).bind fun v5 =>
  (rdI h2 (some a0) [25] 1).bind fun v6 =>
  (rcv h2 a2 [26]).bind fun b9 =>
  hb (f_J11_getBytes b9 v5 a1 v6 h2) fun _ h8 =>
  some ((), h8)
theorem A_J9_putStringAt {M : hp_M} {G : va_G} {h0 : HP} (X : hp_X M G h0 "java/lang/AbstractStringBuilder" "putStringAt" cJ9_putStringAt 3 none [] 2 131) (a0 : Nat) (a1 : Int) (a2 : Option Nat) (h : HP) : vv M G h0 3 (hp_End M G h0) jV h 0 [(0, LR (some a0)), (1, LI a1), (2, LR a2)] [] (f_J9_putStringAt a0 a1 a2 h) := by
  unfold f_J9_putStringAt
  refine vv_aload_n (pc := 0) X (kf := 0) (i := 0) rfl 0 rfl dJ9_putStringAt_0 ?_
  refine vv_aload_n (pc := 1) X (kf := 2) (i := 2) rfl 2 rfl dJ9_putStringAt_1 ?_
  refine vv_rcv (fun b3 t9 c9 fs9 e4 g9 k9 => ?_)
  cases List.mem_singleton.mp k9
  refine vv_callV (pc := 2) (rest := []) (by rw [e4]; rfl) (fun r8 k8 e8 => zz_callP X (m_J9_inflateIfNeededFor (hlM X) _ _ _ _ _ e8) g9 rfl q441 q443 q442 q512 rfl q144 q444 nh_J9 rfl (by decide) (by decide) (Nat.le_of_ble_eq_true rfl) dJ9_putStringAt_2) (fun v1 h2 => ?_)
  refine vv_aload_n (pc := 5) X (kf := 2) (i := 2) rfl 2 rfl dJ9_putStringAt_5 ?_
  refine vv_aload_n (pc := 6) X (kf := 0) (i := 0) rfl 0 rfl dJ9_putStringAt_6 ?_
  refine vv_getR (pc := 7) X (fun _ z => by cases List.mem_singleton.mp z; exact fl_J9_15_25) dJ9_putStringAt_7 (fun v5 => ?_)
  refine vv_iload_n (pc := 10) X (kf := 1) (i := 1) rfl 1 rfl dJ9_putStringAt_10 ?_
  refine vv_aload_n (pc := 11) X (kf := 0) (i := 0) rfl 0 rfl dJ9_putStringAt_11 ?_
  refine vv_getI (pc := 12) X (fun _ z => by cases List.mem_singleton.mp z; exact fl_J9_22_25) dJ9_putStringAt_12 (fun v6 => ?_)
  refine vv_rcv (fun b9 t9 c9 fs9 e10 g9 k9 => ?_)
  cases List.mem_singleton.mp k9
  refine vv_callV (pc := 15) (rest := []) (by rw [e10]; rfl) (fun r8 k8 e8 => zz_callV X (m_J11_getBytes (hlM X) _ _ _ _ _ _ _ e8) g9 rfl rfl q465 q466 q467 q146 q468 nh_J11 rfl (by decide) (by decide) (Nat.le_of_ble_eq_true rfl) dJ9_putStringAt_15) (fun v7 h8 => ?_)
  exact vv_vreturn X rfl rfl dJ9_putStringAt_18
theorem m_J9_putStringAt {l : Launch} (hl : l.stackTraces = false) {G : va_G} (a0 : Nat) (a1 : Int) (a2 : Option Nat) (h : HP) : ∀ r hf, f_J9_putStringAt a0 a1 a2 h = some (r, hf) → Ct l yJ9_putStringAt (ws_ yJ9_putStringAt cJ9_putStringAt 3 none) 2 131 G h [.ref a0, .int (iI a1), va_rf a2] (jV r) hf :=
  zz_ofW hl (by decide +kernel) (lv := [(0, LR (some a0)), (1, LI a1), (2, LR a2)]) (by simp [lv_args, lvL, lvV, zz_rfc, zz_rfs, zz_ci, zz_cr, zz_cj, zz_cf, zz_cd]) (by simp [lg_sl, zz_rfc, zz_ci, zz_cr, zz_cj, zz_cf, zz_cd]) (fun _ X => A_J9_putStringAt X a0 a1 a2 h)
-- J9_append java/lang/AbstractStringBuilder.append(Ljava/lang/String;)Ljava/lang/AbstractStringBuilder;
noncomputable def f_J9_append (a0 : Nat) (a1 : Option Nat) (h : HP) : Option ((Option Nat) × HP) :=
  rNU a1
    (none)
    ((rcv h a1 [26]).bind fun b3 =>
    hb (f_J11_length b3 h) fun v1 h2 =>
    (rdI h2 (some a0) [25] 3).bind fun v5 =>
    (rcv h2 (some a0) [25]).bind fun b8 =>
    hb (f_J9_ensureCapacityInternal b8 (v5 + v1) h2) fun _ h7 =>
    (rdI h7 (some a0) [25] 3).bind fun v10 =>
    (rcv h7 (some a0) [25]).bind fun b13 =>
    hb (f_J9_putStringAt b13 v10 a1 h7) fun _ h12 =>
    (rdI h12 (some a0) [25] 3).bind fun v15 =>
    (wrI h12 (some a0) [25] 3 (v15 + v1)).bind fun h16 =>
    some ((some a0), h16))
theorem A_J9_append {M : hp_M} {G : va_G} {h0 : HP} (X : hp_X M G h0 "java/lang/AbstractStringBuilder" "append" cJ9_append 3 (some (.object "java/lang/AbstractStringBuilder")) [] 4 180) (a0 : Nat) (a1 : Option Nat) (h : HP) : vv M G h0 3 (hp_End M G h0) jR h 0 [(0, LR (some a0)), (1, LR a1)] [] (f_J9_append a0 a1 h) := by
  unfold f_J9_append
  refine vv_aload_n (pc := 0) X (kf := 1) (i := 1) rfl 1 rfl dJ9_append_0 ?_
  refine vv_ifnonnull (pc := 1) (tgt := 9) X dJ9_append_1 rfl ?_ ?_
  · refine vv_aload_n (pc := 9) X (kf := 1) (i := 1) rfl 1 rfl dJ9_append_9 ?_
    refine vv_rcv (fun b3 t9 c9 fs9 e4 g9 k9 => ?_)
    cases List.mem_singleton.mp k9
    refine vv_callI (pc := 10) (rest := []) (by rw [e4]; rfl) (fun r8 k8 e8 => zz_callV X (m_J11_length (hlM X) _ _ _ _ e8) g9 rfl rfl q428 q429 q430 q146 q431 nh_J11 rfl (by decide) (by decide) (Nat.le_of_ble_eq_true rfl) dJ9_append_10) (fun v1 h2 => ?_)
    refine vv_istore_n (pc := 13) (lv' := [(2, LI v1), (0, LR (some a0)), (1, LR a1)]) X (kf := 2) (i := 2) rfl (by decide) rfl dJ9_append_13 ?_
    refine vv_aload_n (pc := 14) X (kf := 0) (i := 0) rfl 1 rfl dJ9_append_14 ?_
    refine vv_aload_n (pc := 15) X (kf := 0) (i := 0) rfl 1 rfl dJ9_append_15 ?_
    refine vv_getI (pc := 16) X (fun _ z => by cases List.mem_singleton.mp z; exact fl_J9_79_25) dJ9_append_16 (fun v5 => ?_)
    refine vv_iload_n (pc := 19) X (kf := 2) (i := 2) rfl 0 rfl dJ9_append_19 ?_
    refine vv_iadd (pc := 20) X dJ9_append_20 ?_
    refine vv_rcv (fun b8 t9 c9 fs9 e9 g9 k9 => ?_)
    cases List.mem_singleton.mp k9
    refine vv_callV (pc := 21) (rest := []) (by rw [e9]; rfl) (fun r8 k8 e8 => zz_callP X (m_J9_ensureCapacityInternal (hlM X) _ _ _ _ _ e8) g9 rfl q362 q364 q363 q512 rfl q144 q365 nh_J9 rfl (by decide) (by decide) (Nat.le_of_ble_eq_true rfl) dJ9_append_21) (fun v6 h7 => ?_)
    refine vv_aload_n (pc := 24) X (kf := 0) (i := 0) rfl 1 rfl dJ9_append_24 ?_
    refine vv_aload_n (pc := 25) X (kf := 0) (i := 0) rfl 1 rfl dJ9_append_25 ?_
    refine vv_getI (pc := 26) X (fun _ z => by cases List.mem_singleton.mp z; exact fl_J9_79_25) dJ9_append_26 (fun v10 => ?_)
    refine vv_aload_n (pc := 29) X (kf := 1) (i := 1) rfl 2 rfl dJ9_append_29 ?_
    refine vv_rcv (fun b13 t9 c9 fs9 e14 g9 k9 => ?_)
    cases List.mem_singleton.mp k9
    refine vv_callV (pc := 30) (rest := []) (by rw [e14]; rfl) (fun r8 k8 e8 => zz_callP X (m_J9_putStringAt (hlM X) _ _ _ _ _ _ e8) g9 rfl q437 q439 q438 q512 rfl q144 q440 nh_J9 rfl (by decide) (by decide) (Nat.le_of_ble_eq_true rfl) dJ9_append_30) (fun v11 h12 => ?_)
    refine vv_aload_n (pc := 33) X (kf := 0) (i := 0) rfl 1 rfl dJ9_append_33 ?_
    refine vv_dup (pc := 34) X rfl dJ9_append_34 ?_
    refine vv_getI (pc := 35) X (fun _ z => by cases List.mem_singleton.mp z; exact fl_J9_79_25) dJ9_append_35 (fun v15 => ?_)
    refine vv_iload_n (pc := 38) X (kf := 2) (i := 2) rfl 0 rfl dJ9_append_38 ?_
    refine vv_iadd (pc := 39) X dJ9_append_39 ?_
    refine vv_putI (pc := 40) (fin := false) X (fun _ z => by cases List.mem_singleton.mp z; exact fl_J9_79_25) (fun z => nomatch z) (fun z => nomatch z) dJ9_append_40 (fun h16 => ?_)
    refine vv_aload_n (pc := 43) X (kf := 0) (i := 0) rfl 1 rfl dJ9_append_43 ?_
    exact vv_aretO X rfl rfl dJ9_append_44
  · refine vv_aload_n (pc := 4) X (kf := 0) (i := 0) rfl 0 rfl dJ9_append_4 ?_
    exact vv_none
theorem m_J9_append {l : Launch} (hl : l.stackTraces = false) {G : va_G} (a0 : Nat) (a1 : Option Nat) (h : HP) : ∀ r hf, f_J9_append a0 a1 h = some (r, hf) → Ct l yJ9_append (ws_ yJ9_append cJ9_append 3 (some (.object "java/lang/AbstractStringBuilder"))) 4 180 G h [.ref a0, va_rf a1] (jR r) hf :=
  zz_ofW hl (by decide +kernel) (lv := [(0, LR (some a0)), (1, LR a1)]) (by simp [lv_args, lvL, lvV, zz_rfc, zz_rfs, zz_ci, zz_cr, zz_cj, zz_cf, zz_cd]) (by simp [lg_sl, zz_rfc, zz_ci, zz_cr, zz_cj, zz_cf, zz_cd]) (fun _ X => A_J9_append X a0 a1 h)
-- J10_append java/lang/StringBuilder.append(Ljava/lang/String;)Ljava/lang/StringBuilder;
noncomputable def f_J10_append (a0 : Nat) (a1 : Option Nat) (h : HP) : Option ((Option Nat) × HP) :=
  (rcv h (some a0) [25]).bind fun b4 =>
  hb (f_J9_append b4 a1 h) fun v1 h2 =>
  some ((some a0), h2)
theorem A_J10_append {M : hp_M} {G : va_G} {h0 : HP} (X : hp_X M G h0 "java/lang/StringBuilder" "append" cJ10_append 2 (some (.object "java/lang/StringBuilder")) [] 5 210) (a0 : Nat) (a1 : Option Nat) (h : HP) : vv M G h0 2 (hp_End M G h0) jR h 0 [(0, LR (some a0)), (1, LR a1)] [] (f_J10_append a0 a1 h) := by
  unfold f_J10_append
  refine vv_aload_n (pc := 0) X (kf := 0) (i := 0) rfl 0 rfl dJ10_append_0 ?_
  refine vv_aload_n (pc := 1) X (kf := 1) (i := 1) rfl 1 rfl dJ10_append_1 ?_
  refine vv_rcv (fun b4 t9 c9 fs9 e5 g9 k9 => ?_)
  cases List.mem_singleton.mp k9
  refine vv_callR (pc := 2) (rest := []) (by rw [e5]; rfl) (fun r8 k8 e8 => zz_callSU X (m_J9_append (hlM X) _ _ _ _ _ e8) g9 rfl q355 q4088 q348 q356 q144 q357 (by decide) rfl (by decide) (by decide) (Nat.le_of_ble_eq_true rfl) dJ10_append_2) (fun v1 h2 => ?_)
  refine vv_pop (pc := 5) X rfl dJ10_append_5 ?_
  refine vv_aload_n (pc := 6) X (kf := 0) (i := 0) rfl 0 rfl dJ10_append_6 ?_
  exact vv_aretO X rfl rfl dJ10_append_7
theorem m_J10_append {l : Launch} (hl : l.stackTraces = false) {G : va_G} (a0 : Nat) (a1 : Option Nat) (h : HP) : ∀ r hf, f_J10_append a0 a1 h = some (r, hf) → Ct l yJ10_append (ws_ yJ10_append cJ10_append 2 (some (.object "java/lang/StringBuilder"))) 5 210 G h [.ref a0, va_rf a1] (jR r) hf :=
  zz_ofW hl (by decide +kernel) (lv := [(0, LR (some a0)), (1, LR a1)]) (by simp [lv_args, lvL, lvV, zz_rfc, zz_rfs, zz_ci, zz_cr, zz_cj, zz_cf, zz_cd]) (by simp [lg_sl, zz_rfc, zz_ci, zz_cr, zz_cj, zz_cf, zz_cd]) (fun _ X => A_J10_append X a0 a1 h)
-- J4_init java/util/ArrayList.<init>(I)V
noncomputable def f_J4_init (a0 : Nat) (a1 : Int) (h : HP) : Option ((Unit) × HP) :=
  hb (f_J3_init a0 h) fun _ h2 =>
  iLE a1 0
    (iEQ a1 0
      (none)
      (none))
    (hb (nwR h2 (tgR h2 (some a0)) "java/lang/Object" a1) fun v3 h4 =>
    (wrR h4 (some a0) [24] 1 v3).bind fun h5 =>
    some ((), h5))
theorem A_J4_init {M : hp_M} {G : va_G} {h0 : HP} (X : hp_X M G h0 "java/util/ArrayList" "<init>" cJ4_init 2 none [] 3 84) (a0 : Nat) (a1 : Int) (h : HP) : vv M G h0 2 (hp_End M G h0) jV h 0 [(0, LR (some a0)), (1, LI a1)] [] (f_J4_init a0 a1 h) := by
  unfold f_J4_init
  refine vv_aload_n (pc := 0) X (kf := 0) (i := 0) rfl 0 rfl dJ4_init_0 ?_
  refine vv_callV (pc := 1) (rest := []) (by rfl) (fun r8 k8 e8 => zz_callI X (m_J3_init (hlM X) _ _ _ _ e8) q262 q263 q138 q264 rfl nh_J3 rfl (by decide) (by decide) (Nat.le_of_ble_eq_true rfl) dJ4_init_1) (fun v1 h2 => ?_)
  refine vv_iload_n (pc := 4) X (kf := 1) (i := 1) rfl 1 rfl dJ4_init_4 ?_
  refine vv_if_le (pc := 5) (tgt := 19) X dJ4_init_5 rfl ?_ ?_
  · refine vv_iload_n (pc := 19) X (kf := 1) (i := 1) rfl 1 rfl dJ4_init_19 ?_
    refine vv_if_ne (pc := 20) (tgt := 33) X dJ4_init_20 rfl ?_ ?_
    · exact vv_none
    · refine vv_aload_n (pc := 23) X (kf := 0) (i := 0) rfl 0 rfl dJ4_init_23 ?_
      exact vv_none
  · refine vv_aload_n (pc := 8) X (kf := 0) (i := 0) rfl 0 rfl dJ4_init_8 ?_
    refine vv_iload_n (pc := 9) X (kf := 1) (i := 1) rfl 1 rfl dJ4_init_9 ?_
    refine vv_newref (pc := 10) X q269 ao_java_lang_Object dJ4_init_10 (fun v3 h4 => ?_)
    refine vv_putR (pc := 13) (ty9 := (.array (.object "java/lang/Object"))) (fin := false) X (fun _ z => by cases List.mem_singleton.mp z; exact fl_J4_9_24) (fun z => nomatch z) (fun z => nomatch z) (by decide +kernel) rfl dJ4_init_13 (fun h5 => ?_)
    refine vv_goto (pc := 16) (tgt := 60) X dJ4_init_16 rfl ?_
    exact vv_vreturn X rfl rfl dJ4_init_60
theorem m_J4_init {l : Launch} (hl : l.stackTraces = false) {G : va_G} (a0 : Nat) (a1 : Int) (h : HP) : ∀ r hf, f_J4_init a0 a1 h = some (r, hf) → Ct l yJ4_init (ws_ yJ4_init cJ4_init 2 none) 3 84 G h [.ref a0, .int (iI a1)] (jV r) hf :=
  zz_ofW hl (by decide +kernel) (lv := [(0, LR (some a0)), (1, LI a1)]) (by simp [lv_args, lvL, lvV, zz_rfc, zz_rfs, zz_ci, zz_cr, zz_cj, zz_cf, zz_cd]) (by simp [lg_sl, zz_rfc, zz_ci, zz_cr, zz_cj, zz_cf, zz_cd]) (fun _ X => A_J4_init X a0 a1 h)
-- X3_init RenamedWords$Names.<init>()V
noncomputable def f_X3_init (a0 : Nat) (h : HP) : Option ((Unit) × HP) :=
  hb (nwO h (tgR h (some a0)) 23 [.inr (.inl none), .inr (.inl none), .inr (.inl none), .inr (.inl none), .inl 0, .inl 0, .inl 0, .inr (.inr 0)] 8) fun v1 h2 =>
  (v1).bind fun b5 =>
  hb (f_J1_init b5 h2) fun _ h4 =>
  (wrR h4 (some a0) [2] 0 v1).bind fun h7 =>
  hb (nwO h7 (tgR h7 (some a0)) 24 [.inl 0, .inr (.inl none), .inl 0] 3) fun v8 h9 =>
  (v8).bind fun b12 =>
  hb (f_J4_init b12 8 h9) fun _ h11 =>
  (wrR h11 (some a0) [2] 1 v8).bind fun h14 =>
  some ((), h14)
theorem A_X3_init {M : hp_M} {G : va_G} {h0 : HP} (X : hp_X M G h0 "RenamedWords$Names" "<init>" cX3_init 1 none [] 4 113) (a0 : Nat) (h : HP) : vv M G h0 1 (hp_End M G h0) jV h 0 [(0, LR (some a0))] [] (f_X3_init a0 h) := by
  unfold f_X3_init
  refine vv_aload_n (pc := 0) X (kf := 0) (i := 0) rfl 0 rfl dX3_init_0 ?_
  refine vv_objInit (pc := 1) X rfl q224 q212 q213 (by decide) (by decide) (Nat.le_of_ble_eq_true rfl) dX3_init_1 ?_
  refine vv_aload_n (pc := 4) X (kf := 0) (i := 0) rfl 0 rfl dX3_init_4 ?_
  refine vv_new (pc := 5) tyJ1 X rfl in_J1 tyJ1_ok q225 q226 q136 ndJ1 (by decide) dX3_init_5 (fun v1 h2 => ?_)
  refine vv_dup (pc := 8) X rfl dX3_init_8 ?_
  refine vv_bnd (fun b5 e6 => ?_)
  refine vv_callV (pc := 9) (rest := [LR v1, LR (some a0)]) (by rw [e6]; rfl) (fun r8 k8 e8 => zz_callI X (m_J1_init (hlM X) _ _ _ _ e8) q227 q228 q136 q229 rfl nh_J1 rfl (by decide) (by decide) (Nat.le_of_ble_eq_true rfl) dX3_init_9) (fun v3 h4 => ?_)
  refine vv_putR (pc := 12) (ty9 := (.object "java/util/Map")) (fin := true) X (fun _ z => by cases List.mem_singleton.mp z; exact fl_X3_12_2) (fun _ => rfl) (fun _ => (fun _ z => by cases List.mem_singleton.mp z; exact ⟨_, rfl, rfl⟩)) (by decide +kernel) rfl dX3_init_12 (fun h7 => ?_)
  refine vv_aload_n (pc := 15) X (kf := 0) (i := 0) rfl 0 rfl dX3_init_15 ?_
  refine vv_new (pc := 16) tyJ4 X rfl in_J4 tyJ4_ok q257 q258 q139 ndJ4 (by decide) dX3_init_16 (fun v8 h9 => ?_)
  refine vv_dup (pc := 19) X rfl dX3_init_19 ?_
  refine vv_bipush (pc := 20) X (by decide) dX3_init_20 ?_
  refine vv_bnd (fun b12 e13 => ?_)
  refine vv_callV (pc := 22) (rest := [LR v8, LR (some a0)]) (by rw [e13]; rfl) (fun r8 k8 e8 => zz_callI X (m_J4_init (hlM X) _ _ _ _ _ e8) q259 q260 q139 q261 rfl nh_J4 rfl (by decide) (by decide) (Nat.le_of_ble_eq_true rfl) dX3_init_22) (fun v10 h11 => ?_)
  refine vv_putR (pc := 25) (ty9 := (.object "java/util/List")) (fin := true) X (fun _ z => by cases List.mem_singleton.mp z; exact fl_X3_23_2) (fun _ => rfl) (fun _ => (fun _ z => by cases List.mem_singleton.mp z; exact ⟨_, rfl, rfl⟩)) (by decide +kernel) rfl dX3_init_25 (fun h14 => ?_)
  exact vv_vreturn X rfl rfl dX3_init_28
theorem m_X3_init {l : Launch} (hl : l.stackTraces = false) {G : va_G} (a0 : Nat) (h : HP) : ∀ r hf, f_X3_init a0 h = some (r, hf) → Ct l yX3_init (ws_ yX3_init cX3_init 1 none) 4 113 G h [.ref a0] (jV r) hf :=
  zz_ofW hl (by decide +kernel) (lv := [(0, LR (some a0))]) (by simp [lv_args, lvL, lvV, zz_rfc, zz_rfs, zz_ci, zz_cr, zz_cj, zz_cf, zz_cd]) (by simp [lg_sl, zz_rfc, zz_ci, zz_cr, zz_cj, zz_cf, zz_cd]) (fun _ X => A_X3_init X a0 h)
-- X4_init RenamedWords$Row.<init>()V
noncomputable def f_X4_init (a0 : Nat) (h : HP) : Option ((Unit) × HP) :=
  some ((), h)
theorem A_X4_init {M : hp_M} {G : va_G} {h0 : HP} (X : hp_X M G h0 "RenamedWords$Row" "<init>" cX4_init 1 none [] 1 28) (a0 : Nat) (h : HP) : vv M G h0 1 (hp_End M G h0) jV h 0 [(0, LR (some a0))] [] (f_X4_init a0 h) := by
  unfold f_X4_init
  refine vv_aload_n (pc := 0) X (kf := 0) (i := 0) rfl 0 rfl dX4_init_0 ?_
  refine vv_objInit (pc := 1) X rfl q631 q212 q213 (by decide) (by decide) (Nat.le_of_ble_eq_true rfl) dX4_init_1 ?_
  exact vv_vreturn X rfl rfl dX4_init_4
theorem m_X4_init {l : Launch} (hl : l.stackTraces = false) {G : va_G} (a0 : Nat) (h : HP) : ∀ r hf, f_X4_init a0 h = some (r, hf) → Ct l yX4_init (ws_ yX4_init cX4_init 1 none) 1 28 G h [.ref a0] (jV r) hf :=
  zz_ofW hl (by decide +kernel) (lv := [(0, LR (some a0))]) (by simp [lv_args, lvL, lvV, zz_rfc, zz_rfs, zz_ci, zz_cr, zz_cj, zz_cf, zz_cd]) (by simp [lg_sl, zz_rfc, zz_ci, zz_cr, zz_cj, zz_cf, zz_cd]) (fun _ X => A_X4_init X a0 h)
-- X5_init RenamedWords$Text.<init>()V
noncomputable def f_X5_init (a0 : Nat) (h : HP) : Option ((Unit) × HP) :=
  hb (f_X4_init a0 h) fun _ h2 =>
  hb (nwI h2 (tgR h2 (some a0)) .int 200) fun v3 h4 =>
  (wrR h4 (some a0) [3] 0 v3).bind fun h5 =>
  hb (nwI h5 (tgR h5 (some a0)) .int 200) fun v6 h7 =>
  (wrR h7 (some a0) [3] 1 v6).bind fun h8 =>
  hb (nwI h8 (tgR h8 (some a0)) .int 26) fun v9 h10 =>
  (wrR h10 (some a0) [3] 2 v9).bind fun h11 =>
  (wrI h11 (some a0) [3] 4 (-1)).bind fun h12 =>
  some ((), h12)
theorem A_X5_init {M : hp_M} {G : va_G} {h0 : HP} (X : hp_X M G h0 "RenamedWords$Text" "<init>" cX5_init 1 none [] 2 56) (a0 : Nat) (h : HP) : vv M G h0 1 (hp_End M G h0) jV h 0 [(0, LR (some a0))] [] (f_X5_init a0 h) := by
  unfold f_X5_init
  refine vv_aload_n (pc := 0) X (kf := 0) (i := 0) rfl 0 rfl dX5_init_0 ?_
  refine vv_callV (pc := 1) (rest := []) (by rfl) (fun r8 k8 e8 => zz_callIN X (m_X4_init (hlM X) _ _ _ _ e8) q628 q629 q156 q630 rfl nh_X4 rfl (by decide) (by decide) (Nat.le_of_ble_eq_true rfl) dX5_init_1) (fun v1 h2 => ?_)
  refine vv_aload_n (pc := 4) X (kf := 0) (i := 0) rfl 0 rfl dX5_init_4 ?_
  refine vv_sipush (pc := 5) X (by decide) dX5_init_5 ?_
  refine vv_newint (pc := 8) X dX5_init_8 (fun v3 h4 => ?_)
  refine vv_putR (pc := 10) (ty9 := (.array .int)) (fin := true) X (fun _ z => by cases List.mem_singleton.mp z; exact fl_X5_9_3) (fun _ => rfl) (fun _ => (fun _ z => by cases List.mem_singleton.mp z; exact ⟨_, rfl, rfl⟩)) (by decide +kernel) rfl dX5_init_10 (fun h5 => ?_)
  refine vv_aload_n (pc := 13) X (kf := 0) (i := 0) rfl 0 rfl dX5_init_13 ?_
  refine vv_sipush (pc := 14) X (by decide) dX5_init_14 ?_
  refine vv_newint (pc := 17) X dX5_init_17 (fun v6 h7 => ?_)
  refine vv_putR (pc := 19) (ty9 := (.array .int)) (fin := true) X (fun _ z => by cases List.mem_singleton.mp z; exact fl_X5_15_3) (fun _ => rfl) (fun _ => (fun _ z => by cases List.mem_singleton.mp z; exact ⟨_, rfl, rfl⟩)) (by decide +kernel) rfl dX5_init_19 (fun h8 => ?_)
  refine vv_aload_n (pc := 22) X (kf := 0) (i := 0) rfl 0 rfl dX5_init_22 ?_
  refine vv_bipush (pc := 23) X (by decide) dX5_init_23 ?_
  refine vv_newint (pc := 25) X dX5_init_25 (fun v9 h10 => ?_)
  refine vv_putR (pc := 27) (ty9 := (.array .int)) (fin := true) X (fun _ z => by cases List.mem_singleton.mp z; exact fl_X5_18_3) (fun _ => rfl) (fun _ => (fun _ z => by cases List.mem_singleton.mp z; exact ⟨_, rfl, rfl⟩)) (by decide +kernel) rfl dX5_init_27 (fun h11 => ?_)
  refine vv_aload_n (pc := 30) X (kf := 0) (i := 0) rfl 0 rfl dX5_init_30 ?_
  refine vv_iconst (pc := 31) X dX5_init_31 ?_
  refine vv_putI (pc := 32) (fin := false) X (fun _ z => by cases List.mem_singleton.mp z; exact fl_X5_21_3) (fun z => nomatch z) (fun z => nomatch z) dX5_init_32 (fun h12 => ?_)
  exact vv_vreturn X rfl rfl dX5_init_35
theorem m_X5_init {l : Launch} (hl : l.stackTraces = false) {G : va_G} (a0 : Nat) (h : HP) : ∀ r hf, f_X5_init a0 h = some (r, hf) → Ct l yX5_init (ws_ yX5_init cX5_init 1 none) 2 56 G h [.ref a0] (jV r) hf :=
  zz_ofW hl (by decide +kernel) (lv := [(0, LR (some a0))]) (by simp [lv_args, lvL, lvV, zz_rfc, zz_rfs, zz_ci, zz_cr, zz_cj, zz_cf, zz_cd]) (by simp [lg_sl, zz_rfc, zz_ci, zz_cr, zz_cj, zz_cf, zz_cd]) (fun _ X => A_X5_init X a0 h)
-- X6_init RenamedWords$Marks.<init>()V
noncomputable def f_X6_init (a0 : Nat) (h : HP) : Option ((Unit) × HP) :=
  some ((), h)
theorem A_X6_init {M : hp_M} {G : va_G} {h0 : HP} (X : hp_X M G h0 "RenamedWords$Marks" "<init>" cX6_init 1 none [] 1 28) (a0 : Nat) (h : HP) : vv M G h0 1 (hp_End M G h0) jV h 0 [(0, LR (some a0))] [] (f_X6_init a0 h) := by
  unfold f_X6_init
  refine vv_aload_n (pc := 0) X (kf := 0) (i := 0) rfl 0 rfl dX6_init_0 ?_
  refine vv_objInit (pc := 1) X rfl q661 q212 q213 (by decide) (by decide) (Nat.le_of_ble_eq_true rfl) dX6_init_1 ?_
  exact vv_vreturn X rfl rfl dX6_init_4
theorem m_X6_init {l : Launch} (hl : l.stackTraces = false) {G : va_G} (a0 : Nat) (h : HP) : ∀ r hf, f_X6_init a0 h = some (r, hf) → Ct l yX6_init (ws_ yX6_init cX6_init 1 none) 1 28 G h [.ref a0] (jV r) hf :=
  zz_ofW hl (by decide +kernel) (lv := [(0, LR (some a0))]) (by simp [lv_args, lvL, lvV, zz_rfc, zz_rfs, zz_ci, zz_cr, zz_cj, zz_cf, zz_cd]) (by simp [lg_sl, zz_rfc, zz_ci, zz_cr, zz_cj, zz_cf, zz_cd]) (fun _ X => A_X6_init X a0 h)
