/-! STAGE 1c: functions and contracts (printed by gen/mkfuncs.py). -/
set_option maxRecDepth 100000
set_option linter.unusedVariables false
-- X12_init RenamedWords$Unreadable.<init>(II)V
noncomputable def f_X12_init (a0 : Nat) (a1 : Int) (a2 : Int) (h : HP) : Option ((Unit) × HP) :=
  hb (f_J6_init_2 a0 none none 0 0 h) fun _ h2 =>
  (wrI h2 (some a0) [9] 6 a1).bind fun h3 =>
  (wrI h3 (some a0) [9] 7 a2).bind fun h4 =>
  some ((), h4)
theorem A_X12_init {M : hp_M} {G : va_G} {h0 : HP} (X : hp_X M G h0 "RenamedWords$Unreadable" "<init>" cX12_init 3 none [] 3 92) (a0 : Nat) (a1 : Int) (a2 : Int) (h : HP) : vv M G h0 3 (hp_End M G h0) jV h 0 [(0, LR (some a0)), (1, LI a1), (2, LI a2)] [] (f_X12_init a0 a1 a2 h) := by
  unfold f_X12_init
  refine vv_aload_n (pc := 0) X (kf := 0) (i := 0) rfl 0 rfl dX12_init_0 ?_
  refine vv_null (pc := 1) X dX12_init_1 ?_
  refine vv_null (pc := 2) X dX12_init_2 ?_
  refine vv_iconst (pc := 3) X dX12_init_3 ?_
  refine vv_iconst (pc := 4) X dX12_init_4 ?_
  refine vv_callV (pc := 5) (rest := []) (by rfl) (fun r8 k8 e8 => zz_callI X (m_J6_init_2 (hlM X) _ _ _ _ _ _ _ _ e8) q982 q983 q141 q984 rfl nh_J6 rfl (by decide) (by decide) (Nat.le_of_ble_eq_true rfl) dX12_init_5) (fun v1 h2 => ?_)
  refine vv_aload_n (pc := 8) X (kf := 0) (i := 0) rfl 0 rfl dX12_init_8 ?_
  refine vv_iload_n (pc := 9) X (kf := 1) (i := 1) rfl 1 rfl dX12_init_9 ?_
  refine vv_putI (pc := 10) (fin := true) X (fun _ z => by cases List.mem_singleton.mp z; exact fl_X12_7_9) (fun _ => rfl) (fun _ => (fun _ z => by cases List.mem_singleton.mp z; exact ⟨_, rfl, rfl⟩)) dX12_init_10 (fun h3 => ?_)
  refine vv_aload_n (pc := 13) X (kf := 0) (i := 0) rfl 0 rfl dX12_init_13 ?_
  refine vv_iload_n (pc := 14) X (kf := 2) (i := 2) rfl 2 rfl dX12_init_14 ?_
  refine vv_putI (pc := 15) (fin := true) X (fun _ z => by cases List.mem_singleton.mp z; exact fl_X12_13_9) (fun _ => rfl) (fun _ => (fun _ z => by cases List.mem_singleton.mp z; exact ⟨_, rfl, rfl⟩)) dX12_init_15 (fun h4 => ?_)
  exact vv_vreturn X rfl rfl dX12_init_18
theorem m_X12_init {l : Launch} (hl : l.stackTraces = false) {G : va_G} (a0 : Nat) (a1 : Int) (a2 : Int) (h : HP) : ∀ r hf, f_X12_init a0 a1 a2 h = some (r, hf) → Ct l yX12_init (ws_ yX12_init cX12_init 3 none) 3 92 G h [.ref a0, .int (iI a1), .int (iI a2)] (jV r) hf :=
  zz_ofW hl (by decide +kernel) (lv := [(0, LR (some a0)), (1, LI a1), (2, LI a2)]) (by simp [lv_args, lvL, lvV, zz_rfc, zz_rfs, zz_ci, zz_cr, zz_cj, zz_cf, zz_cd]) (by simp [lg_sl, zz_rfc, zz_ci, zz_cr, zz_cj, zz_cf, zz_cd]) (fun _ X => A_X12_init X a0 a1 a2 h)
-- X10_must RenamedWords$Reader.must(ZI)V
noncomputable def f_X10_must (a0 : Nat) (a1 : Int) (a2 : Int) (h : HP) : Option ((Nat ⊕ Unit) × HP) :=
  iEQ a1 0
    (hb (nwO h 0 9 [.inr (.inl none), .inr (.inl none), .inr (.inl none), .inr (.inl none), .inr (.inl none), .inl 0, .inl 0, .inl 0] 8) fun v1 h2 =>
    (rdI h2 (some a0) [8, 12] 2).bind fun v3 =>
    (v1).bind fun b6 =>
    hb (f_X12_init b6 a2 v3 h2) fun _ h5 =>
    (v1).bind fun q8 =>
    some (.inl q8, h5))
    (some (.inr (), h))
theorem A_X10_must {M : hp_M} {G : va_G} {h0 : HP} (X : hp_X M G h0 "RenamedWords$Reader" "must" cX10_must 3 none [] 4 122) (a0 : Nat) (a1 : Int) (a2 : Int) (h : HP) : vv M G h0 3 (hp_End M G h0) xV h 0 [(0, LR (some a0)), (1, LI a1), (2, LI a2)] [] (f_X10_must a0 a1 a2 h) := by
  unfold f_X10_must
  refine vv_iload_n (pc := 0) X (kf := 1) (i := 1) rfl 1 rfl dX10_must_0 ?_
  refine vv_if_ne (pc := 1) (tgt := 17) X dX10_must_1 rfl ?_ ?_
  · exact vv_vreturn X rfl rfl dX10_must_17
  · refine vv_new (pc := 4) X tyX12 rfl in_X12 tyX12_ok q970 q971 q169 ndX12 (by decide) dX10_must_4 (fun v1 h2 => ?_)
    refine vv_dup (pc := 7) X rfl dX10_must_7 ?_
    refine vv_iload_n (pc := 8) X (kf := 2) (i := 2) rfl 2 rfl dX10_must_8 ?_
    refine vv_aload_n (pc := 9) X (kf := 0) (i := 0) rfl 0 rfl dX10_must_9 ?_
    refine vv_getI (pc := 10) X (fun _ z => by rcases List.mem_cons.mp z with rfl | z; exact fl_X10_51_8; cases List.mem_singleton.mp z; exact fl_X10_51_12) dX10_must_10 (fun v3 => ?_)
    refine vv_bnd (fun b6 e7 => ?_)
    refine vv_callV (pc := 13) (rest := [LR v1]) (by rw [e7]; rfl) (fun r8 k8 e8 => zz_callI X (m_X12_init (hlM X) _ _ _ _ _ _ e8) q979 q980 q169 q981 rfl nh_X12 rfl (by decide) (by decide) (Nat.le_of_ble_eq_true rfl) dX10_must_13) (fun v4 h5 => ?_)
    refine vv_athrow (pc := 16) X dX10_must_16 (fun q8 _ => ?_)
    exact vvx_out X (by decide) rfl
theorem m_X10_must {l : Launch} (hl : l.stackTraces = false) {G : va_G} (a0 : Nat) (a1 : Int) (a2 : Int) (h : HP) : ∀ r hf, f_X10_must a0 a1 a2 h = some (r, hf) → Ct l yX10_must (ws_ yX10_must cX10_must 3 none) 4 122 G h [.ref a0, .int (iI a1), .int (iI a2)] (xV r) hf :=
  zz_ofW hl (by decide +kernel) (lv := [(0, LR (some a0)), (1, LI a1), (2, LI a2)]) (by simp [lv_args, lvL, lvV, zz_rfc, zz_rfs, zz_ci, zz_cr, zz_cj, zz_cf, zz_cd]) (by simp [lg_sl, zz_rfc, zz_ci, zz_cr, zz_cj, zz_cf, zz_cd]) (fun _ X => A_X10_must X a0 a1 a2 h)
-- X10_isWord RenamedWords$Reader.isWord()Z
noncomputable def b_X10_isWord_15 (s0 : Int) (h : HP) : Option ((Int) × HP) :=
  rtZ s0 (some (s0, h))
theorem B_X10_isWord_15 {M : hp_M} {G : va_G} {h0 : HP} (X : hp_X M G h0 "RenamedWords$Reader" "isWord" cX10_isWord 1 (some .boolean) [] 0 0) (s0 : Int) (h : HP) : vv M G h0 1 (hp_End M G h0) jI h 15 [] [LI s0] (b_X10_isWord_15 s0 h) := by
  unfold b_X10_isWord_15
  exact vv_iretZ X rfl rfl dX10_isWord_15
noncomputable def f_X10_isWord (a0 : Nat) (h : HP) : Option ((Int) × HP) :=
  (rdR h (some a0) [8, 12] 4).bind fun v1 =>
  rEQ v1 (hp_c h 101)
    (b_X10_isWord_15 1 h)
    (b_X10_isWord_15 0 h)
theorem A_X10_isWord {M : hp_M} {G : va_G} {h0 : HP} (X : hp_X M G h0 "RenamedWords$Reader" "isWord" cX10_isWord 1 (some .boolean) [] 0 0) (a0 : Nat) (h : HP) : vv M G h0 1 (hp_End M G h0) jI h 0 [(0, LR (some a0))] [] (f_X10_isWord a0 h) := by
  unfold f_X10_isWord
  refine vv_aload_n (pc := 0) X (kf := 0) (i := 0) rfl 0 rfl dX10_isWord_0 ?_
  refine vv_getR (pc := 1) X (fun _ z => by rcases List.mem_cons.mp z with rfl | z; exact fl_X10_28_8; cases List.mem_singleton.mp z; exact fl_X10_28_12) dX10_isWord_1 (fun v1 => ?_)
  refine vv_gets (pc := 4) (w := LR (hp_c h 101)) X (gs_2 _) rfl q900 dX10_isWord_4 ?_
  refine vv_acmp_ne (pc := 7) (tgt := 14) X dX10_isWord_7 rfl ?_ ?_
  · refine vv_iconst (pc := 14) X dX10_isWord_14 ?_
    exact vv_sub [] (by rfl) (B_X10_isWord_15 X _ _)
  · refine vv_iconst (pc := 10) X dX10_isWord_10 ?_
    refine vv_goto (pc := 11) (tgt := 15) X dX10_isWord_11 rfl ?_
    exact vv_sub [] (by rfl) (B_X10_isWord_15 X _ _)
theorem m_X10_isWord {l : Launch} (hl : l.stackTraces = false) {G : va_G} (a0 : Nat) (h : HP) : ∀ r hf, f_X10_isWord a0 h = some (r, hf) → Ct l yX10_isWord (ws_ yX10_isWord cX10_isWord 1 (some .boolean)) 0 0 G h [.ref a0] (jI r) hf :=
  zz_ofW hl (by decide +kernel) (lv := [(0, LR (some a0))]) (by simp [lv_args, lvL, lvV, zz_rfc, zz_rfs, zz_ci, zz_cr, zz_cj, zz_cf, zz_cd]) (by simp [lg_sl, zz_rfc, zz_ci, zz_cr, zz_cj, zz_cf, zz_cd]) (fun _ X => A_X10_isWord X a0 h)
-- J11_coder java/lang/String.coder()B
noncomputable def b_J11_coder_14 (s0 : Int) (h : HP) : Option ((Int) × HP) :=
  rtB s0 (some (s0, h))
theorem B_J11_coder_14 {M : hp_M} {G : va_G} {h0 : HP} (X : hp_X M G h0 "java/lang/String" "coder" cJ11_coder 1 (some .byte) [] 0 0) (s0 : Int) (h : HP) : vv M G h0 1 (hp_End M G h0) jI h 14 [] [LI s0] (b_J11_coder_14 s0 h) := by
  unfold b_J11_coder_14
  exact vv_iretB X rfl rfl dJ11_coder_14
noncomputable def f_J11_coder (a0 : Nat) (h : HP) : Option ((Int) × HP) :=
  iEQ 1 0
    (b_J11_coder_14 1 h)
    ((rdI h (some a0) [26] 1).bind fun v1 =>
    b_J11_coder_14 v1 h)
theorem A_J11_coder {M : hp_M} {G : va_G} {h0 : HP} (X : hp_X M G h0 "java/lang/String" "coder" cJ11_coder 1 (some .byte) [] 0 0) (a0 : Nat) (h : HP) : vv M G h0 1 (hp_End M G h0) jI h 0 [(0, LR (some a0))] [] (f_J11_coder a0 h) := by
  unfold f_J11_coder
  refine vv_gets (pc := 0) (w := LI 1) X (gs_0 _) rfl q436 dJ11_coder_0 ?_
  refine vv_if_eq (pc := 3) (tgt := 13) X dJ11_coder_3 rfl ?_ ?_
  · refine vv_iconst (pc := 13) X dJ11_coder_13 ?_
    exact vv_sub [] (by rfl) (B_J11_coder_14 X _ _)
  · refine vv_aload_n (pc := 6) X (kf := 0) (i := 0) rfl 0 rfl dJ11_coder_6 ?_
    refine vv_getI (pc := 7) X (fun _ z => by cases List.mem_singleton.mp z; exact fl_J11_15_26) dJ11_coder_7 (fun v1 => ?_)
    refine vv_goto (pc := 10) (tgt := 14) X dJ11_coder_10 rfl ?_
    exact vv_sub [] (by rfl) (B_J11_coder_14 X _ _)
theorem m_J11_coder {l : Launch} (hl : l.stackTraces = false) {G : va_G} (a0 : Nat) (h : HP) : ∀ r hf, f_J11_coder a0 h = some (r, hf) → Ct l yJ11_coder (ws_ yJ11_coder cJ11_coder 1 (some .byte)) 0 0 G h [.ref a0] (jI r) hf :=
  zz_ofW hl (by decide +kernel) (lv := [(0, LR (some a0))]) (by simp [lv_args, lvL, lvV, zz_rfc, zz_rfs, zz_ci, zz_cr, zz_cj, zz_cf, zz_cd]) (by simp [lg_sl, zz_rfc, zz_ci, zz_cr, zz_cj, zz_cf, zz_cd]) (fun _ X => A_J11_coder X a0 h)
-- J11_length java/lang/String.length()I
noncomputable def f_J11_length (a0 : Nat) (h : HP) : Option ((Int) × HP) :=
  (rdR h (some a0) [26] 0).bind fun v1 =>
  (alen h v1).bind fun v2 =>
  (rcv h (some a0) [26]).bind fun b5 =>
  hb (f_J11_coder b5 h) fun v3 h4 =>
  some ((iShr v2 v3), h4)
theorem A_J11_length {M : hp_M} {G : va_G} {h0 : HP} (X : hp_X M G h0 "java/lang/String" "length" cJ11_length 1 (some .int) [] 1 28) (a0 : Nat) (h : HP) : vv M G h0 1 (hp_End M G h0) jI h 0 [(0, LR (some a0))] [] (f_J11_length a0 h) := by
  unfold f_J11_length
  refine vv_aload_n (pc := 0) X (kf := 0) (i := 0) rfl 0 rfl dJ11_length_0 ?_
  refine vv_getR (pc := 1) X (fun _ z => by cases List.mem_singleton.mp z; exact fl_J11_9_26) dJ11_length_1 (fun v1 => ?_)
  refine vv_alen (pc := 4) X dJ11_length_4 (fun v2 => ?_)
  refine vv_aload_n (pc := 5) X (kf := 0) (i := 0) rfl 0 rfl dJ11_length_5 ?_
  refine vv_rcv (fun b5 t9 c9 fs9 e6 g9 k9 => ?_)
  cases List.mem_singleton.mp k9
  refine vv_callI (pc := 6) (rest := [LI v2]) (by rw [e6]; rfl) (fun r8 k8 e8 => zz_callV X (m_J11_coder (hlM X) _ _ _ _ e8) g9 rfl rfl q432 q433 q434 q146 q435 nh_J11 rfl (by decide) (by decide) (Nat.le_of_ble_eq_true rfl) dJ11_length_6) (fun v3 h4 => ?_)
  refine vv_ishr (pc := 9) X dJ11_length_9 ?_
  exact vv_iretI X rfl rfl dJ11_length_10
theorem m_J11_length {l : Launch} (hl : l.stackTraces = false) {G : va_G} (a0 : Nat) (h : HP) : ∀ r hf, f_J11_length a0 h = some (r, hf) → Ct l yJ11_length (ws_ yJ11_length cJ11_length 1 (some .int)) 1 28 G h [.ref a0] (jI r) hf :=
  zz_ofW hl (by decide +kernel) (lv := [(0, LR (some a0))]) (by simp [lv_args, lvL, lvV, zz_rfc, zz_rfs, zz_ci, zz_cr, zz_cj, zz_cf, zz_cd]) (by simp [lg_sl, zz_rfc, zz_ci, zz_cr, zz_cj, zz_cf, zz_cd]) (fun _ X => A_J11_length X a0 h)
-- J11_isLatin1 java/lang/String.isLatin1()Z
noncomputable def b_J11_isLatin1_18 (s0 : Int) (h : HP) : Option ((Int) × HP) :=
  rtZ s0 (some (s0, h))
theorem B_J11_isLatin1_18 {M : hp_M} {G : va_G} {h0 : HP} (X : hp_X M G h0 "java/lang/String" "isLatin1" cJ11_isLatin1 1 (some .boolean) [] 0 0) (s0 : Int) (h : HP) : vv M G h0 1 (hp_End M G h0) jI h 18 [] [LI s0] (b_J11_isLatin1_18 s0 h) := by
  unfold b_J11_isLatin1_18
  exact vv_iretZ X rfl rfl dJ11_isLatin1_18
noncomputable def b_J11_isLatin1_17 (h : HP) : Option ((Int) × HP) :=
  b_J11_isLatin1_18 0 h
theorem B_J11_isLatin1_17 {M : hp_M} {G : va_G} {h0 : HP} (X : hp_X M G h0 "java/lang/String" "isLatin1" cJ11_isLatin1 1 (some .boolean) [] 0 0) (h : HP) : vv M G h0 1 (hp_End M G h0) jI h 17 [] [] (b_J11_isLatin1_17 h) := by
  unfold b_J11_isLatin1_17
  refine vv_iconst (pc := 17) X dJ11_isLatin1_17 ?_
  exact B_J11_isLatin1_18 X _ _
noncomputable def f_J11_isLatin1 (a0 : Nat) (h : HP) : Option ((Int) × HP) :=
  iEQ 1 0
    (b_J11_isLatin1_17 h)
    ((rdI h (some a0) [26] 1).bind fun v1 =>
    iEQ v1 0
      (b_J11_isLatin1_18 1 h)
      (b_J11_isLatin1_17 h))
theorem A_J11_isLatin1 {M : hp_M} {G : va_G} {h0 : HP} (X : hp_X M G h0 "java/lang/String" "isLatin1" cJ11_isLatin1 1 (some .boolean) [] 0 0) (a0 : Nat) (h : HP) : vv M G h0 1 (hp_End M G h0) jI h 0 [(0, LR (some a0))] [] (f_J11_isLatin1 a0 h) := by
  unfold f_J11_isLatin1
  refine vv_gets (pc := 0) (w := LI 1) X (gs_0 _) rfl q436 dJ11_isLatin1_0 ?_
  refine vv_if_eq (pc := 3) (tgt := 17) X dJ11_isLatin1_3 rfl ?_ ?_
  · exact vv_sub [] (by rfl) (B_J11_isLatin1_17 X _)
  · refine vv_aload_n (pc := 6) X (kf := 0) (i := 0) rfl 0 rfl dJ11_isLatin1_6 ?_
    refine vv_getI (pc := 7) X (fun _ z => by cases List.mem_singleton.mp z; exact fl_J11_15_26) dJ11_isLatin1_7 (fun v1 => ?_)
    refine vv_if_ne (pc := 10) (tgt := 17) X dJ11_isLatin1_10 rfl ?_ ?_
    · exact vv_sub [] (by rfl) (B_J11_isLatin1_17 X _)
    · refine vv_iconst (pc := 13) X dJ11_isLatin1_13 ?_
      refine vv_goto (pc := 14) (tgt := 18) X dJ11_isLatin1_14 rfl ?_
      exact vv_sub [] (by rfl) (B_J11_isLatin1_18 X _ _)
theorem m_J11_isLatin1 {l : Launch} (hl : l.stackTraces = false) {G : va_G} (a0 : Nat) (h : HP) : ∀ r hf, f_J11_isLatin1 a0 h = some (r, hf) → Ct l yJ11_isLatin1 (ws_ yJ11_isLatin1 cJ11_isLatin1 1 (some .boolean)) 0 0 G h [.ref a0] (jI r) hf :=
  zz_ofW hl (by decide +kernel) (lv := [(0, LR (some a0))]) (by simp [lv_args, lvL, lvV, zz_rfc, zz_rfs, zz_ci, zz_cr, zz_cj, zz_cf, zz_cd]) (by simp [lg_sl, zz_rfc, zz_ci, zz_cr, zz_cj, zz_cf, zz_cd]) (fun _ X => A_J11_isLatin1 X a0 h)
-- J16_checkIndex jdk/internal/util/Preconditions.checkIndex(IILjava/util/function/BiFunction;)I
noncomputable def b_J16_checkIndex_9 (x0 : Int) (x1 : Int) (x2 : Option Nat) (h : HP) : Option ((Int) × HP) :=
  none
theorem B_J16_checkIndex_9 {M : hp_M} {G : va_G} {h0 : HP} (X : hp_X M G h0 "jdk/internal/util/Preconditions" "checkIndex" cJ16_checkIndex 3 (some .int) [] 0 0) (x0 : Int) (x1 : Int) (x2 : Option Nat) (h : HP) : vv M G h0 3 (hp_End M G h0) jI h 9 [(0, LI x0), (1, LI x1), (2, LR x2)] [] (b_J16_checkIndex_9 x0 x1 x2 h) := by
  unfold b_J16_checkIndex_9
  refine vv_aload_n (pc := 9) X (kf := 2) (i := 2) rfl 2 rfl dJ16_checkIndex_9 ?_
  refine vv_iload_n (pc := 10) X (kf := 0) (i := 0) rfl 0 rfl dJ16_checkIndex_10 ?_
  refine vv_iload_n (pc := 11) X (kf := 1) (i := 1) rfl 1 rfl dJ16_checkIndex_11 ?_
  exact vv_none
noncomputable def f_J16_checkIndex (a1 : Int) (a2 : Int) (a3 : Option Nat) (h : HP) : Option ((Int) × HP) :=
  iLT a1 0
    (b_J16_checkIndex_9 a1 a2 a3 h)
    (iLT a1 a2
      (some (a1, h))
      (b_J16_checkIndex_9 a1 a2 a3 h))
theorem A_J16_checkIndex {M : hp_M} {G : va_G} {h0 : HP} (X : hp_X M G h0 "jdk/internal/util/Preconditions" "checkIndex" cJ16_checkIndex 3 (some .int) [] 0 0) (a1 : Int) (a2 : Int) (a3 : Option Nat) (h : HP) : vv M G h0 3 (hp_End M G h0) jI h 0 [(0, LI a1), (1, LI a2), (2, LR a3)] [] (f_J16_checkIndex a1 a2 a3 h) := by
  unfold f_J16_checkIndex
  refine vv_iload_n (pc := 0) X (kf := 0) (i := 0) rfl 0 rfl dJ16_checkIndex_0 ?_
  refine vv_if_lt (pc := 1) (tgt := 9) X dJ16_checkIndex_1 rfl ?_ ?_
  · exact B_J16_checkIndex_9 X _ _ _ _
  · refine vv_iload_n (pc := 4) X (kf := 0) (i := 0) rfl 0 rfl dJ16_checkIndex_4 ?_
    refine vv_iload_n (pc := 5) X (kf := 1) (i := 1) rfl 1 rfl dJ16_checkIndex_5 ?_
    refine vv_icmp_lt (pc := 6) (tgt := 16) X dJ16_checkIndex_6 rfl ?_ ?_
    · refine vv_iload_n (pc := 16) X (kf := 0) (i := 0) rfl 0 rfl dJ16_checkIndex_16 ?_
      exact vv_iretI X rfl rfl dJ16_checkIndex_17
    · exact B_J16_checkIndex_9 X _ _ _ _
theorem m_J16_checkIndex {l : Launch} (hl : l.stackTraces = false) {G : va_G} (a1 : Int) (a2 : Int) (a3 : Option Nat) (h : HP) : ∀ r hf, f_J16_checkIndex a1 a2 a3 h = some (r, hf) → Ct l yJ16_checkIndex (ws_ yJ16_checkIndex cJ16_checkIndex 3 (some .int)) 0 0 G h [.int (iI a1), .int (iI a2), va_rf a3] (jI r) hf :=
  zz_ofW hl (by decide +kernel) (lv := [(0, LI a1), (1, LI a2), (2, LR a3)]) (by simp [lv_args, lvL, lvV, zz_rfc, zz_rfs, zz_ci, zz_cr, zz_cj, zz_cf, zz_cd]) (by simp [lg_sl, zz_rfc, zz_ci, zz_cr, zz_cj, zz_cf, zz_cd]) (fun _ X => A_J16_checkIndex X a1 a2 a3 h)
-- J11_checkIndex java/lang/String.checkIndex(II)V
noncomputable def f_J11_checkIndex (a1 : Int) (a2 : Int) (h : HP) : Option ((Unit) × HP) :=
  hb (f_J16_checkIndex a1 a2 (hp_c h 110) h) fun v1 h2 =>
  some ((), h2)
theorem A_J11_checkIndex {M : hp_M} {G : va_G} {h0 : HP} (X : hp_X M G h0 "java/lang/String" "checkIndex" cJ11_checkIndex 2 none [] 1 30) (a1 : Int) (a2 : Int) (h : HP) : vv M G h0 2 (hp_End M G h0) jV h 0 [(0, LI a1), (1, LI a2)] [] (f_J11_checkIndex a1 a2 h) := by
  unfold f_J11_checkIndex
  refine vv_iload_n (pc := 0) X (kf := 0) (i := 0) rfl 0 rfl dJ11_checkIndex_0 ?_
  refine vv_iload_n (pc := 1) X (kf := 1) (i := 1) rfl 1 rfl dJ11_checkIndex_1 ?_
  refine vv_gets (pc := 2) (w := LR (hp_c h 110)) X (gs_13 _) rfl q414 dJ11_checkIndex_2 ?_
  refine vv_callI (pc := 5) (rest := []) (by rfl) (fun r8 k8 e8 => zz_callS X (m_J16_checkIndex (hlM X) _ _ _ _ _ _ e8) q896 q897 q152 q898 nh_J16 rfl (by decide) (by decide) (Nat.le_of_ble_eq_true rfl) dJ11_checkIndex_5) (fun v1 h2 => ?_)
  refine vv_pop (pc := 8) X rfl dJ11_checkIndex_8 ?_
  exact vv_vreturn X rfl rfl dJ11_checkIndex_9
theorem m_J11_checkIndex {l : Launch} (hl : l.stackTraces = false) {G : va_G} (a1 : Int) (a2 : Int) (h : HP) : ∀ r hf, f_J11_checkIndex a1 a2 h = some (r, hf) → Ct l yJ11_checkIndex (ws_ yJ11_checkIndex cJ11_checkIndex 2 none) 1 30 G h [.int (iI a1), .int (iI a2)] (jV r) hf :=
  zz_ofW hl (by decide +kernel) (lv := [(0, LI a1), (1, LI a2)]) (by simp [lv_args, lvL, lvV, zz_rfc, zz_rfs, zz_ci, zz_cr, zz_cj, zz_cf, zz_cd]) (by simp [lg_sl, zz_rfc, zz_ci, zz_cr, zz_cj, zz_cf, zz_cd]) (fun _ X => A_J11_checkIndex X a1 a2 h)
-- J17_charAt java/lang/StringLatin1.charAt([BI)C
noncomputable def f_J17_charAt (a1 : Option Nat) (a2 : Int) (h : HP) : Option ((Int) × HP) :=
  (alen h a1).bind fun v1 =>
  hb (f_J11_checkIndex a2 v1 h) fun _ h3 =>
  (aldI h3 .byte a1 a2).bind fun v4 =>
  rtC (iC (iAnd v4 255)) (some ((iC (iAnd v4 255)), h3))
theorem A_J17_charAt {M : hp_M} {G : va_G} {h0 : HP} (X : hp_X M G h0 "java/lang/StringLatin1" "charAt" cJ17_charAt 2 (some .char) [] 2 59) (a1 : Option Nat) (a2 : Int) (h : HP) : vv M G h0 2 (hp_End M G h0) jI h 0 [(0, LR a1), (1, LI a2)] [] (f_J17_charAt a1 a2 h) := by
  unfold f_J17_charAt
  refine vv_iload_n (pc := 0) X (kf := 1) (i := 1) rfl 1 rfl dJ17_charAt_0 ?_
  refine vv_aload_n (pc := 1) X (kf := 0) (i := 0) rfl 0 rfl dJ17_charAt_1 ?_
  refine vv_alen (pc := 2) X dJ17_charAt_2 (fun v1 => ?_)
  refine vv_callV (pc := 3) (rest := []) (by rfl) (fun r8 k8 e8 => zz_callS X (m_J11_checkIndex (hlM X) _ _ _ _ _ e8) q1031 q894 q146 q895 nh_J11 rfl (by decide) (by decide) (Nat.le_of_ble_eq_true rfl) dJ17_charAt_3) (fun v2 h3 => ?_)
  refine vv_aload_n (pc := 6) X (kf := 0) (i := 0) rfl 0 rfl dJ17_charAt_6 ?_
  refine vv_iload_n (pc := 7) X (kf := 1) (i := 1) rfl 1 rfl dJ17_charAt_7 ?_
  refine vv_baload (pc := 8) X dJ17_charAt_8 (fun v4 => ?_)
  refine vv_sipush (pc := 9) X (by decide) dJ17_charAt_9 ?_
  refine vv_iand (pc := 12) X dJ17_charAt_12 ?_
  refine vv_i2c (pc := 13) X dJ17_charAt_13 ?_
  exact vv_iretC X rfl rfl dJ17_charAt_14
theorem m_J17_charAt {l : Launch} (hl : l.stackTraces = false) {G : va_G} (a1 : Option Nat) (a2 : Int) (h : HP) : ∀ r hf, f_J17_charAt a1 a2 h = some (r, hf) → Ct l yJ17_charAt (ws_ yJ17_charAt cJ17_charAt 2 (some .char)) 2 59 G h [va_rf a1, .int (iI a2)] (jI r) hf :=
  zz_ofW hl (by decide +kernel) (lv := [(0, LR a1), (1, LI a2)]) (by simp [lv_args, lvL, lvV, zz_rfc, zz_rfs, zz_ci, zz_cr, zz_cj, zz_cf, zz_cd]) (by simp [lg_sl, zz_rfc, zz_ci, zz_cr, zz_cj, zz_cf, zz_cd]) (fun _ X => A_J17_charAt X a1 a2 h)
-- J11_charAt java/lang/String.charAt(I)C
noncomputable def f_J11_charAt (a0 : Nat) (a1 : Int) (h : HP) : Option ((Int) × HP) :=
  (rcv h (some a0) [26]).bind fun b3 =>
  hb (f_J11_isLatin1 b3 h) fun v1 h2 =>
  iEQ v1 0
    ((rdR h2 (some a0) [26] 0).bind fun v5 =>
    none)
    ((rdR h2 (some a0) [26] 0).bind fun v6 =>
    hb (f_J17_charAt v6 a1 h2) fun v7 h8 =>
    rtC v7 (some (v7, h8)))
theorem A_J11_charAt {M : hp_M} {G : va_G} {h0 : HP} (X : hp_X M G h0 "java/lang/String" "charAt" cJ11_charAt 2 (some .char) [] 3 88) (a0 : Nat) (a1 : Int) (h : HP) : vv M G h0 2 (hp_End M G h0) jI h 0 [(0, LR (some a0)), (1, LI a1)] [] (f_J11_charAt a0 a1 h) := by
  unfold f_J11_charAt
  refine vv_aload_n (pc := 0) X (kf := 0) (i := 0) rfl 0 rfl dJ11_charAt_0 ?_
  refine vv_rcv (fun b3 t9 c9 fs9 e4 g9 k9 => ?_)
  cases List.mem_singleton.mp k9
  refine vv_callI (pc := 1) (rest := []) (by rw [e4]; rfl) (fun r8 k8 e8 => zz_callV X (m_J11_isLatin1 (hlM X) _ _ _ _ e8) g9 rfl rfl q1024 q1025 q1026 q146 q1027 nh_J11 rfl (by decide) (by decide) (Nat.le_of_ble_eq_true rfl) dJ11_charAt_1) (fun v1 h2 => ?_)
  refine vv_if_eq (pc := 4) (tgt := 16) X dJ11_charAt_4 rfl ?_ ?_
  · refine vv_aload_n (pc := 16) X (kf := 0) (i := 0) rfl 0 rfl dJ11_charAt_16 ?_
    refine vv_getR (pc := 17) X (fun _ z => by cases List.mem_singleton.mp z; exact fl_J11_9_26) dJ11_charAt_17 (fun v5 => ?_)
    refine vv_iload_n (pc := 20) X (kf := 1) (i := 1) rfl 1 rfl dJ11_charAt_20 ?_
    exact vv_none
  · refine vv_aload_n (pc := 7) X (kf := 0) (i := 0) rfl 0 rfl dJ11_charAt_7 ?_
    refine vv_getR (pc := 8) X (fun _ z => by cases List.mem_singleton.mp z; exact fl_J11_9_26) dJ11_charAt_8 (fun v6 => ?_)
    refine vv_iload_n (pc := 11) X (kf := 1) (i := 1) rfl 1 rfl dJ11_charAt_11 ?_
    refine vv_callI (pc := 12) (rest := []) (by rfl) (fun r8 k8 e8 => zz_callS X (m_J17_charAt (hlM X) _ _ _ _ _ e8) q1028 q1029 q153 q1030 nh_J17 rfl (by decide) (by decide) (Nat.le_of_ble_eq_true rfl) dJ11_charAt_12) (fun v7 h8 => ?_)
    exact vv_iretC X rfl rfl dJ11_charAt_15
theorem m_J11_charAt {l : Launch} (hl : l.stackTraces = false) {G : va_G} (a0 : Nat) (a1 : Int) (h : HP) : ∀ r hf, f_J11_charAt a0 a1 h = some (r, hf) → Ct l yJ11_charAt (ws_ yJ11_charAt cJ11_charAt 2 (some .char)) 3 88 G h [.ref a0, .int (iI a1)] (jI r) hf :=
  zz_ofW hl (by decide +kernel) (lv := [(0, LR (some a0)), (1, LI a1)]) (by simp [lv_args, lvL, lvV, zz_rfc, zz_rfs, zz_ci, zz_cr, zz_cj, zz_cf, zz_cd]) (by simp [lg_sl, zz_rfc, zz_ci, zz_cr, zz_cj, zz_cf, zz_cd]) (fun _ X => A_J11_charAt X a0 a1 h)
-- X10_letters RenamedWords$Reader.letters()[I
noncomputable def c_X10_letters_21 (r21 : Option Nat → Option Nat → Int → HP → Option ((Nat ⊕ Option Nat) × HP)) (x0 : Option Nat) (x1 : Option Nat) (x2 : Int) (h : HP) : Option ((Nat ⊕ Option Nat) × HP) :=
  (alen h x1).bind fun v18 =>
  iLE v18 x2
    (some (.inr x1, h))
    ((rdR h x0 [8, 12] 5).bind fun v19 =>
    (rcv h v19 [26]).bind fun b22 =>
    hb (f_J11_charAt b22 x2 h) fun v20 h21 =>
    (astI h21 .int x1 x2 (v20 - 97)).bind fun h24 =>
    r21 x0 x1 (x2 + 1) h24)
noncomputable def b_X10_letters_21 : Option Nat → Option Nat → Int → HP → Option ((Nat ⊕ Option Nat) × HP) := fx (fun _ _ _ _ => none) (c_X10_letters_21) FU
theorem C_X10_letters_21 {M : hp_M} {G : va_G} {h0 : HP} (X : hp_X M G h0 "RenamedWords$Reader" "letters" cX10_letters 3 (some (.array .int)) [] 5 152) (r21 : Option Nat → Option Nat → Int → HP → Option ((Nat ⊕ Option Nat) × HP)) (hr21 : ∀ (y0 : Option Nat) (y1 : Option Nat) (y2 : Int) (h : HP), vv M G h0 3 (hp_End M G h0) xR h 21 [(0, LR y0), (1, LR y1), (2, LI y2)] [] (r21 y0 y1 y2 h)) (x0 : Option Nat) (x1 : Option Nat) (x2 : Int) (h : HP) : vv M G h0 3 (hp_End M G h0) xR h 21 [(0, LR x0), (1, LR x1), (2, LI x2)] [] (c_X10_letters_21 r21 x0 x1 x2 h) := by
  unfold c_X10_letters_21
  refine vv_iload_n (pc := 21) X (kf := 2) (i := 2) rfl 2 rfl dX10_letters_21 ?_
  refine vv_aload_n (pc := 22) X (kf := 1) (i := 1) rfl 1 rfl dX10_letters_22 ?_
  refine vv_alen (pc := 23) X dX10_letters_23 (fun v18 => ?_)
  refine vv_icmp_ge (pc := 24) (tgt := 47) X dX10_letters_24 rfl ?_ ?_
  · refine vv_aload_n (pc := 47) X (kf := 1) (i := 1) rfl 1 rfl dX10_letters_47 ?_
    exact vv_aretA X rfl rfl dX10_letters_48
  · refine vv_aload_n (pc := 27) X (kf := 1) (i := 1) rfl 1 rfl dX10_letters_27 ?_
    refine vv_iload_n (pc := 28) X (kf := 2) (i := 2) rfl 2 rfl dX10_letters_28 ?_
    refine vv_aload_n (pc := 29) X (kf := 0) (i := 0) rfl 0 rfl dX10_letters_29 ?_
    refine vv_getR (pc := 30) X (fun _ z => by rcases List.mem_cons.mp z with rfl | z; exact fl_X10_33_8; cases List.mem_singleton.mp z; exact fl_X10_33_12) dX10_letters_30 (fun v19 => ?_)
    refine vv_iload_n (pc := 33) X (kf := 2) (i := 2) rfl 2 rfl dX10_letters_33 ?_
    refine vv_rcv (fun b22 t9 c9 fs9 e23 g9 k9 => ?_)
    cases List.mem_singleton.mp k9
    refine vv_callI (pc := 34) (rest := [LI x2, LR x1]) (by rw [e23]; rfl) (fun r8 k8 e8 => zz_callV X (m_J11_charAt (hlM X) _ _ _ _ _ e8) g9 rfl rfl q1020 q1021 q1022 q146 q1023 nh_J11 rfl (by decide) (by decide) (Nat.le_of_ble_eq_true rfl) dX10_letters_34) (fun v20 h21 => ?_)
    refine vv_bipush (pc := 37) X (by decide) dX10_letters_37 ?_
    refine vv_isub (pc := 39) X dX10_letters_39 ?_
    refine vv_iastore (pc := 40) X dX10_letters_40 (fun h24 => ?_)
    refine vv_iinc (pc := 41) (lv' := [(2, LI (x2 + 1)), (0, LR x0), (1, LR x1)]) X 2 rfl (by decide) rfl dX10_letters_41 ?_
    refine vv_goto (pc := 44) (tgt := 21) X dX10_letters_44 rfl ?_
    exact vv_sub [1, 2, 0] (by rfl) (hr21 _ _ _ _)
theorem B_X10_letters_21 {M : hp_M} {G : va_G} {h0 : HP} (X : hp_X M G h0 "RenamedWords$Reader" "letters" cX10_letters 3 (some (.array .int)) [] 5 152) : ∀ (x0 : Option Nat) (x1 : Option Nat) (x2 : Int) (h : HP), vv M G h0 3 (hp_End M G h0) xR h 21 [(0, LR x0), (1, LR x1), (2, LI x2)] [] (b_X10_letters_21 x0 x1 x2 h) := by
  unfold b_X10_letters_21
  generalize FU = n
  induction n with
  | zero => intro x0 x1 x2 h; exact vv_none
  | succ n ih => exact C_X10_letters_21 X _ ih
noncomputable def f_X10_letters (a0 : Nat) (h : HP) : Option ((Nat ⊕ Option Nat) × HP) :=
  (rcv h (some a0) [8, 12]).bind fun b3 =>
  hb (f_X10_isWord b3 h) fun v1 h2 =>
  (rcv h2 (some a0) [8, 12]).bind fun b7 =>
  hbx (f_X10_must b7 v1 1 h2) (fun q9 h10 =>
      some (.inl q9, h10)) fun _ h6 =>
  (rdR h6 (some a0) [8, 12] 5).bind fun v11 =>
  (rcv h6 v11 [26]).bind fun b14 =>
  hb (f_J11_length b14 h6) fun v12 h13 =>
  hb (nwI h13 0 .int v12) fun v16 h17 =>
  b_X10_letters_21 (some a0) v16 0 h17
theorem A_X10_letters {M : hp_M} {G : va_G} {h0 : HP} (X : hp_X M G h0 "RenamedWords$Reader" "letters" cX10_letters 3 (some (.array .int)) [] 5 152) (a0 : Nat) (h : HP) : vv M G h0 3 (hp_End M G h0) xR h 0 [(0, LR (some a0))] [] (f_X10_letters a0 h) := by
  unfold f_X10_letters
  refine vv_aload_n (pc := 0) X (kf := 0) (i := 0) rfl 0 rfl dX10_letters_0 ?_
  refine vv_aload_n (pc := 1) X (kf := 0) (i := 0) rfl 0 rfl dX10_letters_1 ?_
  refine vv_rcv (fun b3 t9 c9 fs9 e4 g9 k9 => ?_)
  refine vv_callI (pc := 2) (stv := [].reverse ++ .ref b3 :: List.map lvV [LR (some a0)]) (rest := [LR (some a0)]) (by rw [e4]; rfl) (fun r8 k8 e8 => by
      rcases List.mem_cons.mp k9 with rfl | k9
      · exact zz_callW X (m_X10_isWord (hlM X) _ _ _ _ e8) g9 rfl q1012 q1013 q1016 q165 q1017 nh_X10 rfl (by decide) (by decide) (Nat.le_of_ble_eq_true rfl) dX10_letters_2
      cases List.mem_singleton.mp k9
      exact zz_callW X (m_X10_isWord (hlM X) _ _ _ _ e8) g9 rfl q1012 q1013 q1015 q165 q1017 nh_X10 rfl (by decide) (by decide) (Nat.le_of_ble_eq_true rfl) dX10_letters_2) (fun v1 h2 => ?_)
  refine vv_iconst (pc := 5) X dX10_letters_5 ?_
  refine vv_rcv (fun b7 t9 c9 fs9 e8 g9 k9 => ?_)
  refine vv_xallV (pc := 6) (stv := [.int (iI v1), .int (iI 1)].reverse ++ .ref b7 :: List.map lvV []) (rest := []) (by rw [e8]; rfl) (fun r8 k8 e8 => by
      rcases List.mem_cons.mp k9 with rfl | k9
      · exact zz_callW X (m_X10_must (hlM X) _ _ _ _ _ _ e8) g9 rfl q1018 q968 q4100 q165 q969 nh_X10 rfl (by decide) (by decide) (Nat.le_of_ble_eq_true rfl) dX10_letters_6
      cases List.mem_singleton.mp k9
      exact zz_callW X (m_X10_must (hlM X) _ _ _ _ _ _ e8) g9 rfl q1018 q968 q4099 q165 q969 nh_X10 rfl (by decide) (by decide) (Nat.le_of_ble_eq_true rfl) dX10_letters_6) (fun v5 h6 => ?_) (fun q9 h10 => ?_)
  · refine vv_aload_n (pc := 9) X (kf := 0) (i := 0) rfl 0 rfl dX10_letters_9 ?_
    refine vv_getR (pc := 10) X (fun _ z => by rcases List.mem_cons.mp z with rfl | z; exact fl_X10_33_8; cases List.mem_singleton.mp z; exact fl_X10_33_12) dX10_letters_10 (fun v11 => ?_)
    refine vv_rcv (fun b14 t9 c9 fs9 e15 g9 k9 => ?_)
    cases List.mem_singleton.mp k9
    refine vv_callI (pc := 13) (rest := []) (by rw [e15]; rfl) (fun r8 k8 e8 => zz_callV X (m_J11_length (hlM X) _ _ _ _ e8) g9 rfl rfl q1019 q429 q430 q146 q431 nh_J11 rfl (by decide) (by decide) (Nat.le_of_ble_eq_true rfl) dX10_letters_13) (fun v12 h13 => ?_)
    refine vv_newint (pc := 16) X dX10_letters_16 (fun v16 h17 => ?_)
    refine vv_astore_n (pc := 18) (lv' := [(1, LR v16), (0, LR (some a0))]) X (kf := 1) (i := 1) rfl (by decide) rfl dX10_letters_18 ?_
    refine vv_iconst (pc := 19) X dX10_letters_19 ?_
    refine vv_istore_n (pc := 20) (lv' := [(2, LI 0), (1, LR v16), (0, LR (some a0))]) X (kf := 2) (i := 2) rfl (by decide) rfl dX10_letters_20 ?_
    exact vv_sub [2, 1, 0] (by rfl) (B_X10_letters_21 X _ _ _ _)
  · exact vvx_out X (by decide) rfl
theorem m_X10_letters {l : Launch} (hl : l.stackTraces = false) {G : va_G} (a0 : Nat) (h : HP) : ∀ r hf, f_X10_letters a0 h = some (r, hf) → Ct l yX10_letters (ws_ yX10_letters cX10_letters 3 (some (.array .int))) 5 152 G h [.ref a0] (xR r) hf :=
  zz_ofW hl (by decide +kernel) (lv := [(0, LR (some a0))]) (by simp [lv_args, lvL, lvV, zz_rfc, zz_rfs, zz_ci, zz_cr, zz_cj, zz_cf, zz_cd]) (by simp [lg_sl, zz_rfc, zz_ci, zz_cr, zz_cj, zz_cf, zz_cd]) (fun _ X => A_X10_letters X a0 h)
-- X11_textLetters RenamedWords$SetupReader.textLetters()V
noncomputable def b_X11_textLetters_30 (x0 : Option Nat) (x1 : Option Nat) (s0 : Int) (s1 : Option Nat) (h : HP) : Option ((Nat ⊕ Unit) × HP) :=
  (rcv h s1 [8]).bind fun b13 =>
  hbx (f_X10_must b13 s0 2 h) (fun q15 h16 =>
      some (.inl q15, h16)) fun _ h12 =>
  (rdR h12 x0 [8] 7).bind fun v17 =>
  (rdR h12 v17 [1] 0).bind fun v18 =>
  (rdR h12 v18 [3] 0).bind fun v19 =>
  (rdR h12 x0 [8] 7).bind fun v20 =>
  (rdR h12 v20 [1] 0).bind fun v21 =>
  (rdI h12 v21 [3] 3).bind fun v22 =>
  (alen h12 x1).bind fun v23 =>
  (acpI h12 .int x1 0 v19 v22 v23).bind fun h24 =>
  (rdR h24 x0 [8] 7).bind fun v25 =>
  (rdR h24 v25 [1] 0).bind fun v26 =>
  (rdI h24 v26 [3] 3).bind fun v27 =>
  (alen h24 x1).bind fun v28 =>
  (wrI h24 v26 [3] 3 (v27 + v28)).bind fun h29 =>
  (rcv h29 x0 [8]).bind fun b32 =>
  hb (f_X10_next b32 h29) fun _ h31 =>
  some (.inr (), h31)
theorem B_X11_textLetters_30 {M : hp_M} {G : va_G} {h0 : HP} (X : hp_X M G h0 "RenamedWords$SetupReader" "textLetters" cX11_textLetters 2 none [] 7 281) (x0 : Option Nat) (x1 : Option Nat) (s0 : Int) (s1 : Option Nat) (h : HP) : vv M G h0 2 (hp_End M G h0) xV h 30 [(0, LR x0), (1, LR x1)] [LI s0, LR s1] (b_X11_textLetters_30 x0 x1 s0 s1 h) := by
  unfold b_X11_textLetters_30
  refine vv_iconst (pc := 30) X dX11_textLetters_30 ?_
  refine vv_rcv (fun b13 t9 c9 fs9 e14 g9 k9 => ?_)
  cases List.mem_singleton.mp k9
  refine vv_xallV (pc := 31) (rest := []) (by rw [e14]; rfl) (fun r8 k8 e8 => zz_callU X (m_X10_must (hlM X) _ _ _ _ _ _ e8) g9 rfl q964 q965 (va_Decl.of (X.1.2.2.2.2 _ q968) (X.1.2.2.2.2 _ q969)) (by decide) q968 q967 q165 q969 rfl (by decide) (by decide) (Nat.le_of_ble_eq_true rfl) dX11_textLetters_31) (fun v11 h12 => ?_) (fun q15 h16 => ?_)
  · refine vv_aload_n (pc := 34) X (kf := 1) (i := 1) rfl 1 rfl dX11_textLetters_34 ?_
    refine vv_iconst (pc := 35) X dX11_textLetters_35 ?_
    refine vv_aload_n (pc := 36) X (kf := 0) (i := 0) rfl 0 rfl dX11_textLetters_36 ?_
    refine vv_getR (pc := 37) X (fun _ z => by cases List.mem_singleton.mp z; exact fl_X11_25_8) dX11_textLetters_37 (fun v17 => ?_)
    refine vv_getR (pc := 40) X (fun _ z => by cases List.mem_singleton.mp z; exact fl_X11_69_1) dX11_textLetters_40 (fun v18 => ?_)
    refine vv_getR (pc := 43) X (fun _ z => by cases List.mem_singleton.mp z; exact fl_X11_78_3) dX11_textLetters_43 (fun v19 => ?_)
    refine vv_aload_n (pc := 46) X (kf := 0) (i := 0) rfl 0 rfl dX11_textLetters_46 ?_
    refine vv_getR (pc := 47) X (fun _ z => by cases List.mem_singleton.mp z; exact fl_X11_25_8) dX11_textLetters_47 (fun v20 => ?_)
    refine vv_getR (pc := 50) X (fun _ z => by cases List.mem_singleton.mp z; exact fl_X11_69_1) dX11_textLetters_50 (fun v21 => ?_)
    refine vv_getI (pc := 53) X (fun _ z => by cases List.mem_singleton.mp z; exact fl_X11_72_3) dX11_textLetters_53 (fun v22 => ?_)
    refine vv_aload_n (pc := 56) X (kf := 1) (i := 1) rfl 1 rfl dX11_textLetters_56 ?_
    refine vv_alen (pc := 57) X dX11_textLetters_57 (fun v23 => ?_)
    refine vv_arraycopy (pc := 58) X q1035 q396 q395 q151 (by decide) (by decide) (Nat.le_of_ble_eq_true rfl) dX11_textLetters_58 (fun h24 => ?_)
    refine vv_aload_n (pc := 61) X (kf := 0) (i := 0) rfl 0 rfl dX11_textLetters_61 ?_
    refine vv_getR (pc := 62) X (fun _ z => by cases List.mem_singleton.mp z; exact fl_X11_25_8) dX11_textLetters_62 (fun v25 => ?_)
    refine vv_getR (pc := 65) X (fun _ z => by cases List.mem_singleton.mp z; exact fl_X11_69_1) dX11_textLetters_65 (fun v26 => ?_)
    refine vv_dup (pc := 68) X rfl dX11_textLetters_68 ?_
    refine vv_getI (pc := 69) X (fun _ z => by cases List.mem_singleton.mp z; exact fl_X11_72_3) dX11_textLetters_69 (fun v27 => ?_)
    refine vv_aload_n (pc := 72) X (kf := 1) (i := 1) rfl 1 rfl dX11_textLetters_72 ?_
    refine vv_alen (pc := 73) X dX11_textLetters_73 (fun v28 => ?_)
    refine vv_iadd (pc := 74) X dX11_textLetters_74 ?_
    refine vv_putI (pc := 75) (fin := false) X (fun _ z => by cases List.mem_singleton.mp z; exact fl_X11_72_3) (fun z => nomatch z) (fun z => nomatch z) dX11_textLetters_75 (fun h29 => ?_)
    refine vv_aload_n (pc := 78) X (kf := 0) (i := 0) rfl 0 rfl dX11_textLetters_78 ?_
    refine vv_rcv (fun b32 t9 c9 fs9 e33 g9 k9 => ?_)
    cases List.mem_singleton.mp k9
    refine vv_callV (pc := 79) (rest := []) (by rw [e33]; rfl) (fun r8 k8 e8 => zz_callU X (m_X10_next (hlM X) _ _ _ _ e8) g9 rfl q998 q999 (va_Decl.of (X.1.2.2.2.2 _ q860) (X.1.2.2.2.2 _ q864)) (by decide) q860 q1001 q165 q864 rfl (by decide) (by decide) (Nat.le_of_ble_eq_true rfl) dX11_textLetters_79) (fun v30 h31 => ?_)
    exact vv_vreturn X rfl rfl dX11_textLetters_82
  · exact vvx_out X (by decide) rfl
noncomputable def f_X11_textLetters (a0 : Nat) (h : HP) : Option ((Nat ⊕ Unit) × HP) :=
  (rcv h (some a0) [8]).bind fun b3 =>
  hbx (f_X10_letters b3 h) (fun q5 h6 =>
      some (.inl q5, h6)) fun v1 h2 =>
  (rdR h2 (some a0) [8] 7).bind fun v7 =>
  (rdR h2 v7 [1] 0).bind fun v8 =>
  (rdI h2 v8 [3] 3).bind fun v9 =>
  (alen h2 v1).bind fun v10 =>
  iLT 200 (v9 + v10)
    (b_X11_textLetters_30 (some a0) v1 0 (some a0) h2)
    (b_X11_textLetters_30 (some a0) v1 1 (some a0) h2)
theorem A_X11_textLetters {M : hp_M} {G : va_G} {h0 : HP} (X : hp_X M G h0 "RenamedWords$SetupReader" "textLetters" cX11_textLetters 2 none [] 7 281) (a0 : Nat) (h : HP) : vv M G h0 2 (hp_End M G h0) xV h 0 [(0, LR (some a0))] [] (f_X11_textLetters a0 h) := by
  unfold f_X11_textLetters
  refine vv_aload_n (pc := 0) X (kf := 0) (i := 0) rfl 0 rfl dX11_textLetters_0 ?_
  refine vv_rcv (fun b3 t9 c9 fs9 e4 g9 k9 => ?_)
  cases List.mem_singleton.mp k9
  refine vv_xallR (pc := 1) (rest := []) (by rw [e4]; rfl) (fun r8 k8 e8 => zz_callU X (m_X10_letters (hlM X) _ _ _ _ e8) g9 rfl q1006 q1007 (va_Decl.of (X.1.2.2.2.2 _ q1010) (X.1.2.2.2.2 _ q1011)) (by decide) q1010 q1009 q165 q1011 rfl (by decide) (by decide) (Nat.le_of_ble_eq_true rfl) dX11_textLetters_1) (fun v1 h2 => ?_) (fun q5 h6 => ?_)
  · refine vv_astore_n (pc := 4) (lv' := [(1, LR v1), (0, LR (some a0))]) X (kf := 1) (i := 1) rfl (by decide) rfl dX11_textLetters_4 ?_
    refine vv_aload_n (pc := 5) X (kf := 0) (i := 0) rfl 1 rfl dX11_textLetters_5 ?_
    refine vv_aload_n (pc := 6) X (kf := 0) (i := 0) rfl 1 rfl dX11_textLetters_6 ?_
    refine vv_getR (pc := 7) X (fun _ z => by cases List.mem_singleton.mp z; exact fl_X11_25_8) dX11_textLetters_7 (fun v7 => ?_)
    refine vv_getR (pc := 10) X (fun _ z => by cases List.mem_singleton.mp z; exact fl_X11_69_1) dX11_textLetters_10 (fun v8 => ?_)
    refine vv_getI (pc := 13) X (fun _ z => by cases List.mem_singleton.mp z; exact fl_X11_72_3) dX11_textLetters_13 (fun v9 => ?_)
    refine vv_aload_n (pc := 16) X (kf := 1) (i := 1) rfl 0 rfl dX11_textLetters_16 ?_
    refine vv_alen (pc := 17) X dX11_textLetters_17 (fun v10 => ?_)
    refine vv_iadd (pc := 18) X dX11_textLetters_18 ?_
    refine vv_sipush (pc := 19) X (by decide) dX11_textLetters_19 ?_
    refine vv_icmp_gt (pc := 22) (tgt := 29) X dX11_textLetters_22 rfl ?_ ?_
    · refine vv_iconst (pc := 29) X dX11_textLetters_29 ?_
      exact vv_sub [1, 0] (by rfl) (B_X11_textLetters_30 X _ _ _ _ _)
    · refine vv_iconst (pc := 25) X dX11_textLetters_25 ?_
      refine vv_goto (pc := 26) (tgt := 30) X dX11_textLetters_26 rfl ?_
      exact vv_sub [1, 0] (by rfl) (B_X11_textLetters_30 X _ _ _ _ _)
  · exact vvx_out X (by decide) rfl
theorem m_X11_textLetters {l : Launch} (hl : l.stackTraces = false) {G : va_G} (a0 : Nat) (h : HP) : ∀ r hf, f_X11_textLetters a0 h = some (r, hf) → Ct l yX11_textLetters (ws_ yX11_textLetters cX11_textLetters 2 none) 7 281 G h [.ref a0] (xV r) hf :=
  zz_ofW hl (by decide +kernel) (lv := [(0, LR (some a0))]) (by simp [lv_args, lvL, lvV, zz_rfc, zz_rfs, zz_ci, zz_cr, zz_cj, zz_cf, zz_cd]) (by simp [lg_sl, zz_rfc, zz_ci, zz_cr, zz_cj, zz_cf, zz_cd]) (fun _ X => A_X11_textLetters X a0 h)
-- X10_isSign RenamedWords$Reader.isSign(I)Z
noncomputable def b_X10_isSign_31 (s0 : Int) (h : HP) : Option ((Int) × HP) :=
  rtZ s0 (some (s0, h))
theorem B_X10_isSign_31 {M : hp_M} {G : va_G} {h0 : HP} (X : hp_X M G h0 "RenamedWords$Reader" "isSign" cX10_isSign 2 (some .boolean) [] 0 0) (s0 : Int) (h : HP) : vv M G h0 2 (hp_End M G h0) jI h 31 [] [LI s0] (b_X10_isSign_31 s0 h) := by
  unfold b_X10_isSign_31
  exact vv_iretZ X rfl rfl dX10_isSign_31
noncomputable def b_X10_isSign_30 (h : HP) : Option ((Int) × HP) :=
  b_X10_isSign_31 0 h
theorem B_X10_isSign_30 {M : hp_M} {G : va_G} {h0 : HP} (X : hp_X M G h0 "RenamedWords$Reader" "isSign" cX10_isSign 2 (some .boolean) [] 0 0) (h : HP) : vv M G h0 2 (hp_End M G h0) jI h 30 [] [] (b_X10_isSign_30 h) := by
  unfold b_X10_isSign_30
  refine vv_iconst (pc := 30) X dX10_isSign_30 ?_
  exact B_X10_isSign_31 X _ _
noncomputable def f_X10_isSign (a0 : Nat) (a1 : Int) (h : HP) : Option ((Int) × HP) :=
  (rdR h (some a0) [8, 12] 4).bind fun v1 =>
  rEQ v1 (hp_c h 103)
    ((rdR h (some a0) [8, 12] 6).bind fun v2 =>
    (rdR h v2 [0] 4).bind fun v3 =>
    (rdI h (some a0) [8, 12] 2).bind fun v4 =>
    (aldI h .byte v3 v4).bind fun v5 =>
    iEQ v5 a1
      (b_X10_isSign_31 1 h)
      (b_X10_isSign_30 h))
    (b_X10_isSign_30 h)
theorem A_X10_isSign {M : hp_M} {G : va_G} {h0 : HP} (X : hp_X M G h0 "RenamedWords$Reader" "isSign" cX10_isSign 2 (some .boolean) [] 0 0) (a0 : Nat) (a1 : Int) (h : HP) : vv M G h0 2 (hp_End M G h0) jI h 0 [(0, LR (some a0)), (1, LI a1)] [] (f_X10_isSign a0 a1 h) := by
  unfold f_X10_isSign
  refine vv_aload_n (pc := 0) X (kf := 0) (i := 0) rfl 0 rfl dX10_isSign_0 ?_
  refine vv_getR (pc := 1) X (fun _ z => by rcases List.mem_cons.mp z with rfl | z; exact fl_X10_28_8; cases List.mem_singleton.mp z; exact fl_X10_28_12) dX10_isSign_1 (fun v1 => ?_)
  refine vv_gets (pc := 4) (w := LR (hp_c h 103)) X (gs_4 _) rfl q906 dX10_isSign_4 ?_
  refine vv_acmp_ne (pc := 7) (tgt := 30) X dX10_isSign_7 rfl ?_ ?_
  · exact vv_sub [] (by rfl) (B_X10_isSign_30 X _)
  · refine vv_aload_n (pc := 10) X (kf := 0) (i := 0) rfl 0 rfl dX10_isSign_10 ?_
    refine vv_getR (pc := 11) X (fun _ z => by rcases List.mem_cons.mp z with rfl | z; exact fl_X10_3_8; cases List.mem_singleton.mp z; exact fl_X10_3_12) dX10_isSign_11 (fun v2 => ?_)
    refine vv_getR (pc := 14) X (fun _ z => by cases List.mem_singleton.mp z; exact fl_X10_40_0) dX10_isSign_14 (fun v3 => ?_)
    refine vv_aload_n (pc := 17) X (kf := 0) (i := 0) rfl 0 rfl dX10_isSign_17 ?_
    refine vv_getI (pc := 18) X (fun _ z => by rcases List.mem_cons.mp z with rfl | z; exact fl_X10_51_8; cases List.mem_singleton.mp z; exact fl_X10_51_12) dX10_isSign_18 (fun v4 => ?_)
    refine vv_baload (pc := 21) X dX10_isSign_21 (fun v5 => ?_)
    refine vv_iload_n (pc := 22) X (kf := 1) (i := 1) rfl 1 rfl dX10_isSign_22 ?_
    refine vv_icmp_ne (pc := 23) (tgt := 30) X dX10_isSign_23 rfl ?_ ?_
    · exact vv_sub [] (by rfl) (B_X10_isSign_30 X _)
    · refine vv_iconst (pc := 26) X dX10_isSign_26 ?_
      refine vv_goto (pc := 27) (tgt := 31) X dX10_isSign_27 rfl ?_
      exact vv_sub [] (by rfl) (B_X10_isSign_31 X _ _)
theorem m_X10_isSign {l : Launch} (hl : l.stackTraces = false) {G : va_G} (a0 : Nat) (a1 : Int) (h : HP) : ∀ r hf, f_X10_isSign a0 a1 h = some (r, hf) → Ct l yX10_isSign (ws_ yX10_isSign cX10_isSign 2 (some .boolean)) 0 0 G h [.ref a0, .int (iI a1)] (jI r) hf :=
  zz_ofW hl (by decide +kernel) (lv := [(0, LR (some a0)), (1, LI a1)]) (by simp [lv_args, lvL, lvV, zz_rfc, zz_rfs, zz_ci, zz_cr, zz_cj, zz_cf, zz_cd]) (by simp [lg_sl, zz_rfc, zz_ci, zz_cr, zz_cj, zz_cf, zz_cd]) (fun _ X => A_X10_isSign X a0 a1 h)
-- J13_signedHashCode jdk/internal/util/ArraysSupport.signedHashCode(I[BII)I
noncomputable def c_J13_signedHashCode_8 (r8 : Int → Option Nat → Int → Int → HP → Option ((Int) × HP)) (x0 : Int) (x1 : Option Nat) (x4 : Int) (x5 : Int) (h : HP) : Option ((Int) × HP) :=
  iLE x4 x5
    (some (x0, h))
    ((aldI h .byte x1 x5).bind fun v1 =>
    r8 ((31 * x0) + (iAnd v1 255)) x1 x4 (x5 + 1) h)
noncomputable def b_J13_signedHashCode_8 : Int → Option Nat → Int → Int → HP → Option ((Int) × HP) := fx (fun _ _ _ _ _ => none) (c_J13_signedHashCode_8) FU
theorem C_J13_signedHashCode_8 {M : hp_M} {G : va_G} {h0 : HP} (X : hp_X M G h0 "jdk/internal/util/ArraysSupport" "signedHashCode" cJ13_signedHashCode 6 (some .int) [] 0 0) (r8 : Int → Option Nat → Int → Int → HP → Option ((Int) × HP)) (hr8 : ∀ (y0 : Int) (y1 : Option Nat) (y4 : Int) (y5 : Int) (h : HP), vv M G h0 6 (hp_End M G h0) jI h 8 [(0, LI y0), (1, LR y1), (4, LI y4), (5, LI y5)] [] (r8 y0 y1 y4 y5 h)) (x0 : Int) (x1 : Option Nat) (x4 : Int) (x5 : Int) (h : HP) : vv M G h0 6 (hp_End M G h0) jI h 8 [(0, LI x0), (1, LR x1), (4, LI x4), (5, LI x5)] [] (c_J13_signedHashCode_8 r8 x0 x1 x4 x5 h) := by
  unfold c_J13_signedHashCode_8
  refine vv_iload (pc := 8) X 3 rfl dJ13_signedHashCode_8 ?_
  refine vv_iload (pc := 10) X 2 rfl dJ13_signedHashCode_10 ?_
  refine vv_icmp_ge (pc := 12) (tgt := 35) X dJ13_signedHashCode_12 rfl ?_ ?_
  · refine vv_iload_n (pc := 35) X (kf := 0) (i := 0) rfl 0 rfl dJ13_signedHashCode_35 ?_
    exact vv_iretI X rfl rfl dJ13_signedHashCode_36
  · refine vv_bipush (pc := 15) X (by decide) dJ13_signedHashCode_15 ?_
    refine vv_iload_n (pc := 17) X (kf := 0) (i := 0) rfl 0 rfl dJ13_signedHashCode_17 ?_
    refine vv_imul (pc := 18) X dJ13_signedHashCode_18 ?_
    refine vv_aload_n (pc := 19) X (kf := 1) (i := 1) rfl 1 rfl dJ13_signedHashCode_19 ?_
    refine vv_iload (pc := 20) X 3 rfl dJ13_signedHashCode_20 ?_
    refine vv_baload (pc := 22) X dJ13_signedHashCode_22 (fun v1 => ?_)
    refine vv_sipush (pc := 23) X (by decide) dJ13_signedHashCode_23 ?_
    refine vv_iand (pc := 26) X dJ13_signedHashCode_26 ?_
    refine vv_iadd (pc := 27) X dJ13_signedHashCode_27 ?_
    refine vv_istore_n (pc := 28) (lv' := [(0, LI ((31 * x0) + (iAnd v1 255))), (1, LR x1), (4, LI x4), (5, LI x5)]) X (kf := 0) (i := 0) rfl (by decide) rfl dJ13_signedHashCode_28 ?_
    refine vv_iinc (pc := 29) (lv' := [(5, LI (x5 + 1)), (0, LI ((31 * x0) + (iAnd v1 255))), (1, LR x1), (4, LI x4)]) X 3 rfl (by decide) rfl dJ13_signedHashCode_29 ?_
    refine vv_goto (pc := 32) (tgt := 8) X dJ13_signedHashCode_32 rfl ?_
    exact vv_sub [1, 2, 3, 0] (by rfl) (hr8 _ _ _ _ _)
theorem B_J13_signedHashCode_8 {M : hp_M} {G : va_G} {h0 : HP} (X : hp_X M G h0 "jdk/internal/util/ArraysSupport" "signedHashCode" cJ13_signedHashCode 6 (some .int) [] 0 0) : ∀ (x0 : Int) (x1 : Option Nat) (x4 : Int) (x5 : Int) (h : HP), vv M G h0 6 (hp_End M G h0) jI h 8 [(0, LI x0), (1, LR x1), (4, LI x4), (5, LI x5)] [] (b_J13_signedHashCode_8 x0 x1 x4 x5 h) := by
  unfold b_J13_signedHashCode_8
  generalize FU = n
  induction n with
  | zero => intro x0 x1 x4 x5 h; exact vv_none
  | succ n ih => exact C_J13_signedHashCode_8 X _ ih
noncomputable def f_J13_signedHashCode (a1 : Int) (a2 : Option Nat) (a3 : Int) (a4 : Int) (h : HP) : Option ((Int) × HP) :=
  b_J13_signedHashCode_8 a1 a2 (a3 + a4) a3 h
theorem A_J13_signedHashCode {M : hp_M} {G : va_G} {h0 : HP} (X : hp_X M G h0 "jdk/internal/util/ArraysSupport" "signedHashCode" cJ13_signedHashCode 6 (some .int) [] 0 0) (a1 : Int) (a2 : Option Nat) (a3 : Int) (a4 : Int) (h : HP) : vv M G h0 6 (hp_End M G h0) jI h 0 [(0, LI a1), (1, LR a2), (2, LI a3), (3, LI a4)] [] (f_J13_signedHashCode a1 a2 a3 a4 h) := by
  unfold f_J13_signedHashCode
  refine vv_iload_n (pc := 0) X (kf := 2) (i := 2) rfl 2 rfl dJ13_signedHashCode_0 ?_
  refine vv_iload_n (pc := 1) X (kf := 3) (i := 3) rfl 3 rfl dJ13_signedHashCode_1 ?_
  refine vv_iadd (pc := 2) X dJ13_signedHashCode_2 ?_
  refine vv_istore (pc := 3) (lv' := [(4, LI (a3 + a4)), (0, LI a1), (1, LR a2), (2, LI a3), (3, LI a4)]) X (by decide) rfl dJ13_signedHashCode_3 ?_
  refine vv_iload_n (pc := 5) X (kf := 2) (i := 2) rfl 3 rfl dJ13_signedHashCode_5 ?_
  refine vv_istore (pc := 6) (lv' := [(5, LI a3), (4, LI (a3 + a4)), (0, LI a1), (1, LR a2), (2, LI a3), (3, LI a4)]) X (by decide) rfl dJ13_signedHashCode_6 ?_
  exact vv_sub [2, 3, 1, 0] (by rfl) (B_J13_signedHashCode_8 X _ _ _ _ _)
theorem m_J13_signedHashCode {l : Launch} (hl : l.stackTraces = false) {G : va_G} (a1 : Int) (a2 : Option Nat) (a3 : Int) (a4 : Int) (h : HP) : ∀ r hf, f_J13_signedHashCode a1 a2 a3 a4 h = some (r, hf) → Ct l yJ13_signedHashCode (ws_ yJ13_signedHashCode cJ13_signedHashCode 6 (some .int)) 0 0 G h [.int (iI a1), va_rf a2, .int (iI a3), .int (iI a4)] (jI r) hf :=
  zz_ofW hl (by decide +kernel) (lv := [(0, LI a1), (1, LR a2), (2, LI a3), (3, LI a4)]) (by simp [lv_args, lvL, lvV, zz_rfc, zz_rfs, zz_ci, zz_cr, zz_cj, zz_cf, zz_cd]) (by simp [lg_sl, zz_rfc, zz_ci, zz_cr, zz_cj, zz_cf, zz_cd]) (fun _ X => A_J13_signedHashCode X a1 a2 a3 a4 h)
-- J13_utf16hashCode jdk/internal/util/ArraysSupport.utf16hashCode(I[BII)I
noncomputable def f_J13_utf16hashCode (a1 : Int) (a2 : Option Nat) (a3 : Int) (a4 : Int) (h : HP) : Option ((Int) × HP) :=
  iLE (a3 + a4) a3
    (some (a1, h))
    (none)
theorem A_J13_utf16hashCode {M : hp_M} {G : va_G} {h0 : HP} (X : hp_X M G h0 "jdk/internal/util/ArraysSupport" "utf16hashCode" cJ13_utf16hashCode 6 (some .int) [] 0 0) (a1 : Int) (a2 : Option Nat) (a3 : Int) (a4 : Int) (h : HP) : vv M G h0 6 (hp_End M G h0) jI h 0 [(0, LI a1), (1, LR a2), (2, LI a3), (3, LI a4)] [] (f_J13_utf16hashCode a1 a2 a3 a4 h) := by
  unfold f_J13_utf16hashCode
  refine vv_iload_n (pc := 0) X (kf := 2) (i := 2) rfl 2 rfl dJ13_utf16hashCode_0 ?_
  refine vv_iload_n (pc := 1) X (kf := 3) (i := 3) rfl 3 rfl dJ13_utf16hashCode_1 ?_
  refine vv_iadd (pc := 2) X dJ13_utf16hashCode_2 ?_
  refine vv_istore (pc := 3) (lv' := [(4, LI (a3 + a4)), (0, LI a1), (1, LR a2), (2, LI a3), (3, LI a4)]) X (by decide) rfl dJ13_utf16hashCode_3 ?_
  refine vv_iload_n (pc := 5) X (kf := 2) (i := 2) rfl 3 rfl dJ13_utf16hashCode_5 ?_
  refine vv_istore (pc := 6) (lv' := [(5, LI a3), (4, LI (a3 + a4)), (0, LI a1), (1, LR a2), (2, LI a3), (3, LI a4)]) X (by decide) rfl dJ13_utf16hashCode_6 ?_
  refine vv_iload (pc := 8) X 0 rfl dJ13_utf16hashCode_8 ?_
  refine vv_iload (pc := 10) X 1 rfl dJ13_utf16hashCode_10 ?_
  refine vv_icmp_ge (pc := 12) (tgt := 38) X dJ13_utf16hashCode_12 rfl ?_ ?_
  · refine vv_iload_n (pc := 38) X (kf := 0) (i := 0) rfl 2 rfl dJ13_utf16hashCode_38 ?_
    exact vv_iretI X rfl rfl dJ13_utf16hashCode_39
  · refine vv_bipush (pc := 15) X (by decide) dJ13_utf16hashCode_15 ?_
    refine vv_iload_n (pc := 17) X (kf := 0) (i := 0) rfl 2 rfl dJ13_utf16hashCode_17 ?_
    refine vv_imul (pc := 18) X dJ13_utf16hashCode_18 ?_
    exact vv_none
theorem m_J13_utf16hashCode {l : Launch} (hl : l.stackTraces = false) {G : va_G} (a1 : Int) (a2 : Option Nat) (a3 : Int) (a4 : Int) (h : HP) : ∀ r hf, f_J13_utf16hashCode a1 a2 a3 a4 h = some (r, hf) → Ct l yJ13_utf16hashCode (ws_ yJ13_utf16hashCode cJ13_utf16hashCode 6 (some .int)) 0 0 G h [.int (iI a1), va_rf a2, .int (iI a3), .int (iI a4)] (jI r) hf :=
  zz_ofW hl (by decide +kernel) (lv := [(0, LI a1), (1, LR a2), (2, LI a3), (3, LI a4)]) (by simp [lv_args, lvL, lvV, zz_rfc, zz_rfs, zz_ci, zz_cr, zz_cj, zz_cf, zz_cd]) (by simp [lg_sl, zz_rfc, zz_ci, zz_cr, zz_cj, zz_cf, zz_cd]) (fun _ X => A_J13_utf16hashCode X a1 a2 a3 a4 h)
-- J13_hashCode jdk/internal/util/ArraysSupport.hashCode(I[CII)I
noncomputable def f_J13_hashCode (a1 : Int) (a2 : Option Nat) (a3 : Int) (a4 : Int) (h : HP) : Option ((Int) × HP) :=
  iLE (a3 + a4) a3
    (some (a1, h))
    (none)
theorem A_J13_hashCode {M : hp_M} {G : va_G} {h0 : HP} (X : hp_X M G h0 "jdk/internal/util/ArraysSupport" "hashCode" cJ13_hashCode 6 (some .int) [] 0 0) (a1 : Int) (a2 : Option Nat) (a3 : Int) (a4 : Int) (h : HP) : vv M G h0 6 (hp_End M G h0) jI h 0 [(0, LI a1), (1, LR a2), (2, LI a3), (3, LI a4)] [] (f_J13_hashCode a1 a2 a3 a4 h) := by
  unfold f_J13_hashCode
  refine vv_iload_n (pc := 0) X (kf := 2) (i := 2) rfl 2 rfl dJ13_hashCode_0 ?_
  refine vv_iload_n (pc := 1) X (kf := 3) (i := 3) rfl 3 rfl dJ13_hashCode_1 ?_
  refine vv_iadd (pc := 2) X dJ13_hashCode_2 ?_
  refine vv_istore (pc := 3) (lv' := [(4, LI (a3 + a4)), (0, LI a1), (1, LR a2), (2, LI a3), (3, LI a4)]) X (by decide) rfl dJ13_hashCode_3 ?_
  refine vv_iload_n (pc := 5) X (kf := 2) (i := 2) rfl 3 rfl dJ13_hashCode_5 ?_
  refine vv_istore (pc := 6) (lv' := [(5, LI a3), (4, LI (a3 + a4)), (0, LI a1), (1, LR a2), (2, LI a3), (3, LI a4)]) X (by decide) rfl dJ13_hashCode_6 ?_
  refine vv_iload (pc := 8) X 0 rfl dJ13_hashCode_8 ?_
  refine vv_iload (pc := 10) X 1 rfl dJ13_hashCode_10 ?_
  refine vv_icmp_ge (pc := 12) (tgt := 31) X dJ13_hashCode_12 rfl ?_ ?_
  · refine vv_iload_n (pc := 31) X (kf := 0) (i := 0) rfl 2 rfl dJ13_hashCode_31 ?_
    exact vv_iretI X rfl rfl dJ13_hashCode_32
  · refine vv_bipush (pc := 15) X (by decide) dJ13_hashCode_15 ?_
    refine vv_iload_n (pc := 17) X (kf := 0) (i := 0) rfl 2 rfl dJ13_hashCode_17 ?_
    refine vv_imul (pc := 18) X dJ13_hashCode_18 ?_
    refine vv_aload_n (pc := 19) X (kf := 1) (i := 1) rfl 3 rfl dJ13_hashCode_19 ?_
    refine vv_iload (pc := 20) X 0 rfl dJ13_hashCode_20 ?_
    exact vv_none
theorem m_J13_hashCode {l : Launch} (hl : l.stackTraces = false) {G : va_G} (a1 : Int) (a2 : Option Nat) (a3 : Int) (a4 : Int) (h : HP) : ∀ r hf, f_J13_hashCode a1 a2 a3 a4 h = some (r, hf) → Ct l yJ13_hashCode (ws_ yJ13_hashCode cJ13_hashCode 6 (some .int)) 0 0 G h [.int (iI a1), va_rf a2, .int (iI a3), .int (iI a4)] (jI r) hf :=
  zz_ofW hl (by decide +kernel) (lv := [(0, LI a1), (1, LR a2), (2, LI a3), (3, LI a4)]) (by simp [lv_args, lvL, lvV, zz_rfc, zz_rfs, zz_ci, zz_cr, zz_cj, zz_cf, zz_cd]) (by simp [lg_sl, zz_rfc, zz_ci, zz_cr, zz_cj, zz_cf, zz_cd]) (fun _ X => A_J13_hashCode X a1 a2 a3 a4 h)
-- J13_hashCode_2 jdk/internal/util/ArraysSupport.hashCode(I[BII)I
noncomputable def c_J13_hashCode_2_8 (r8 : Int → Option Nat → Int → Int → HP → Option ((Int) × HP)) (x0 : Int) (x1 : Option Nat) (x4 : Int) (x5 : Int) (h : HP) : Option ((Int) × HP) :=
  iLE x4 x5
    (some (x0, h))
    ((aldI h .byte x1 x5).bind fun v1 =>
    r8 ((31 * x0) + v1) x1 x4 (x5 + 1) h)
noncomputable def b_J13_hashCode_2_8 : Int → Option Nat → Int → Int → HP → Option ((Int) × HP) := fx (fun _ _ _ _ _ => none) (c_J13_hashCode_2_8) FU
theorem C_J13_hashCode_2_8 {M : hp_M} {G : va_G} {h0 : HP} (X : hp_X M G h0 "jdk/internal/util/ArraysSupport" "hashCode" cJ13_hashCode_2 6 (some .int) [] 0 0) (r8 : Int → Option Nat → Int → Int → HP → Option ((Int) × HP)) (hr8 : ∀ (y0 : Int) (y1 : Option Nat) (y4 : Int) (y5 : Int) (h : HP), vv M G h0 6 (hp_End M G h0) jI h 8 [(0, LI y0), (1, LR y1), (4, LI y4), (5, LI y5)] [] (r8 y0 y1 y4 y5 h)) (x0 : Int) (x1 : Option Nat) (x4 : Int) (x5 : Int) (h : HP) : vv M G h0 6 (hp_End M G h0) jI h 8 [(0, LI x0), (1, LR x1), (4, LI x4), (5, LI x5)] [] (c_J13_hashCode_2_8 r8 x0 x1 x4 x5 h) := by
  unfold c_J13_hashCode_2_8
  refine vv_iload (pc := 8) X 3 rfl dJ13_hashCode_2_8 ?_
  refine vv_iload (pc := 10) X 2 rfl dJ13_hashCode_2_10 ?_
  refine vv_icmp_ge (pc := 12) (tgt := 31) X dJ13_hashCode_2_12 rfl ?_ ?_
  · refine vv_iload_n (pc := 31) X (kf := 0) (i := 0) rfl 0 rfl dJ13_hashCode_2_31 ?_
    exact vv_iretI X rfl rfl dJ13_hashCode_2_32
  · refine vv_bipush (pc := 15) X (by decide) dJ13_hashCode_2_15 ?_
    refine vv_iload_n (pc := 17) X (kf := 0) (i := 0) rfl 0 rfl dJ13_hashCode_2_17 ?_
    refine vv_imul (pc := 18) X dJ13_hashCode_2_18 ?_
    refine vv_aload_n (pc := 19) X (kf := 1) (i := 1) rfl 1 rfl dJ13_hashCode_2_19 ?_
    refine vv_iload (pc := 20) X 3 rfl dJ13_hashCode_2_20 ?_
    refine vv_baload (pc := 22) X dJ13_hashCode_2_22 (fun v1 => ?_)
    refine vv_iadd (pc := 23) X dJ13_hashCode_2_23 ?_
    refine vv_istore_n (pc := 24) (lv' := [(0, LI ((31 * x0) + v1)), (1, LR x1), (4, LI x4), (5, LI x5)]) X (kf := 0) (i := 0) rfl (by decide) rfl dJ13_hashCode_2_24 ?_
    refine vv_iinc (pc := 25) (lv' := [(5, LI (x5 + 1)), (0, LI ((31 * x0) + v1)), (1, LR x1), (4, LI x4)]) X 3 rfl (by decide) rfl dJ13_hashCode_2_25 ?_
    refine vv_goto (pc := 28) (tgt := 8) X dJ13_hashCode_2_28 rfl ?_
    exact vv_sub [1, 2, 3, 0] (by rfl) (hr8 _ _ _ _ _)
theorem B_J13_hashCode_2_8 {M : hp_M} {G : va_G} {h0 : HP} (X : hp_X M G h0 "jdk/internal/util/ArraysSupport" "hashCode" cJ13_hashCode_2 6 (some .int) [] 0 0) : ∀ (x0 : Int) (x1 : Option Nat) (x4 : Int) (x5 : Int) (h : HP), vv M G h0 6 (hp_End M G h0) jI h 8 [(0, LI x0), (1, LR x1), (4, LI x4), (5, LI x5)] [] (b_J13_hashCode_2_8 x0 x1 x4 x5 h) := by
  unfold b_J13_hashCode_2_8
  generalize FU = n
  induction n with
  | zero => intro x0 x1 x4 x5 h; exact vv_none
  | succ n ih => exact C_J13_hashCode_2_8 X _ ih
noncomputable def f_J13_hashCode_2 (a1 : Int) (a2 : Option Nat) (a3 : Int) (a4 : Int) (h : HP) : Option ((Int) × HP) :=
  b_J13_hashCode_2_8 a1 a2 (a3 + a4) a3 h
theorem A_J13_hashCode_2 {M : hp_M} {G : va_G} {h0 : HP} (X : hp_X M G h0 "jdk/internal/util/ArraysSupport" "hashCode" cJ13_hashCode_2 6 (some .int) [] 0 0) (a1 : Int) (a2 : Option Nat) (a3 : Int) (a4 : Int) (h : HP) : vv M G h0 6 (hp_End M G h0) jI h 0 [(0, LI a1), (1, LR a2), (2, LI a3), (3, LI a4)] [] (f_J13_hashCode_2 a1 a2 a3 a4 h) := by
  unfold f_J13_hashCode_2
  refine vv_iload_n (pc := 0) X (kf := 2) (i := 2) rfl 2 rfl dJ13_hashCode_2_0 ?_
  refine vv_iload_n (pc := 1) X (kf := 3) (i := 3) rfl 3 rfl dJ13_hashCode_2_1 ?_
  refine vv_iadd (pc := 2) X dJ13_hashCode_2_2 ?_
  refine vv_istore (pc := 3) (lv' := [(4, LI (a3 + a4)), (0, LI a1), (1, LR a2), (2, LI a3), (3, LI a4)]) X (by decide) rfl dJ13_hashCode_2_3 ?_
  refine vv_iload_n (pc := 5) X (kf := 2) (i := 2) rfl 3 rfl dJ13_hashCode_2_5 ?_
  refine vv_istore (pc := 6) (lv' := [(5, LI a3), (4, LI (a3 + a4)), (0, LI a1), (1, LR a2), (2, LI a3), (3, LI a4)]) X (by decide) rfl dJ13_hashCode_2_6 ?_
  exact vv_sub [2, 3, 1, 0] (by rfl) (B_J13_hashCode_2_8 X _ _ _ _ _)
theorem m_J13_hashCode_2 {l : Launch} (hl : l.stackTraces = false) {G : va_G} (a1 : Int) (a2 : Option Nat) (a3 : Int) (a4 : Int) (h : HP) : ∀ r hf, f_J13_hashCode_2 a1 a2 a3 a4 h = some (r, hf) → Ct l yJ13_hashCode_2 (ws_ yJ13_hashCode_2 cJ13_hashCode_2 6 (some .int)) 0 0 G h [.int (iI a1), va_rf a2, .int (iI a3), .int (iI a4)] (jI r) hf :=
  zz_ofW hl (by decide +kernel) (lv := [(0, LI a1), (1, LR a2), (2, LI a3), (3, LI a4)]) (by simp [lv_args, lvL, lvV, zz_rfc, zz_rfs, zz_ci, zz_cr, zz_cj, zz_cf, zz_cd]) (by simp [lg_sl, zz_rfc, zz_ci, zz_cr, zz_cj, zz_cf, zz_cd]) (fun _ X => A_J13_hashCode_2 X a1 a2 a3 a4 h)
-- J13_hashCode_3 jdk/internal/util/ArraysSupport.hashCode(I[SII)I
noncomputable def f_J13_hashCode_3 (a1 : Int) (a2 : Option Nat) (a3 : Int) (a4 : Int) (h : HP) : Option ((Int) × HP) :=
  iLE (a3 + a4) a3
    (some (a1, h))
    (none)
theorem A_J13_hashCode_3 {M : hp_M} {G : va_G} {h0 : HP} (X : hp_X M G h0 "jdk/internal/util/ArraysSupport" "hashCode" cJ13_hashCode_3 6 (some .int) [] 0 0) (a1 : Int) (a2 : Option Nat) (a3 : Int) (a4 : Int) (h : HP) : vv M G h0 6 (hp_End M G h0) jI h 0 [(0, LI a1), (1, LR a2), (2, LI a3), (3, LI a4)] [] (f_J13_hashCode_3 a1 a2 a3 a4 h) := by
  unfold f_J13_hashCode_3
  refine vv_iload_n (pc := 0) X (kf := 2) (i := 2) rfl 2 rfl dJ13_hashCode_3_0 ?_
  refine vv_iload_n (pc := 1) X (kf := 3) (i := 3) rfl 3 rfl dJ13_hashCode_3_1 ?_
  refine vv_iadd (pc := 2) X dJ13_hashCode_3_2 ?_
  refine vv_istore (pc := 3) (lv' := [(4, LI (a3 + a4)), (0, LI a1), (1, LR a2), (2, LI a3), (3, LI a4)]) X (by decide) rfl dJ13_hashCode_3_3 ?_
  refine vv_iload_n (pc := 5) X (kf := 2) (i := 2) rfl 3 rfl dJ13_hashCode_3_5 ?_
  refine vv_istore (pc := 6) (lv' := [(5, LI a3), (4, LI (a3 + a4)), (0, LI a1), (1, LR a2), (2, LI a3), (3, LI a4)]) X (by decide) rfl dJ13_hashCode_3_6 ?_
  refine vv_iload (pc := 8) X 0 rfl dJ13_hashCode_3_8 ?_
  refine vv_iload (pc := 10) X 1 rfl dJ13_hashCode_3_10 ?_
  refine vv_icmp_ge (pc := 12) (tgt := 31) X dJ13_hashCode_3_12 rfl ?_ ?_
  · refine vv_iload_n (pc := 31) X (kf := 0) (i := 0) rfl 2 rfl dJ13_hashCode_3_31 ?_
    exact vv_iretI X rfl rfl dJ13_hashCode_3_32
  · refine vv_bipush (pc := 15) X (by decide) dJ13_hashCode_3_15 ?_
    refine vv_iload_n (pc := 17) X (kf := 0) (i := 0) rfl 2 rfl dJ13_hashCode_3_17 ?_
    refine vv_imul (pc := 18) X dJ13_hashCode_3_18 ?_
    refine vv_aload_n (pc := 19) X (kf := 1) (i := 1) rfl 3 rfl dJ13_hashCode_3_19 ?_
    refine vv_iload (pc := 20) X 0 rfl dJ13_hashCode_3_20 ?_
    exact vv_none
theorem m_J13_hashCode_3 {l : Launch} (hl : l.stackTraces = false) {G : va_G} (a1 : Int) (a2 : Option Nat) (a3 : Int) (a4 : Int) (h : HP) : ∀ r hf, f_J13_hashCode_3 a1 a2 a3 a4 h = some (r, hf) → Ct l yJ13_hashCode_3 (ws_ yJ13_hashCode_3 cJ13_hashCode_3 6 (some .int)) 0 0 G h [.int (iI a1), va_rf a2, .int (iI a3), .int (iI a4)] (jI r) hf :=
  zz_ofW hl (by decide +kernel) (lv := [(0, LI a1), (1, LR a2), (2, LI a3), (3, LI a4)]) (by simp [lv_args, lvL, lvV, zz_rfc, zz_rfs, zz_ci, zz_cr, zz_cj, zz_cf, zz_cd]) (by simp [lg_sl, zz_rfc, zz_ci, zz_cr, zz_cj, zz_cf, zz_cd]) (fun _ X => A_J13_hashCode_3 X a1 a2 a3 a4 h)
