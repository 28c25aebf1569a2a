/-! STAGE 1c: functions and contracts (printed by gen/mkfuncs.py). -/
set_option maxRecDepth 100000
set_option linter.unusedVariables false
-- J9_newCapacity java/lang/AbstractStringBuilder.newCapacity(I)I
noncomputable def f_J9_newCapacity (a0 : Nat) (a1 : Int) (h : HP) : Option ((Int) × HP) :=
  (rdR h (some a0) [25] 0).bind fun v1 =>
  (alen h v1).bind fun v2 =>
  (rdI h (some a0) [25] 1).bind fun v3 =>
  (rdI h (some a0) [25] 1).bind fun v4 =>
  hb (f_J13_newLength v2 ((iShl a1 v3) - v2) (v2 + (iShl 2 v4)) h) fun v5 h6 =>
  iEQ v5 2147483647
    (none)
    ((rdI h6 (some a0) [25] 1).bind fun v7 =>
    some ((iShr v5 v7), h6))
theorem A_J9_newCapacity {M : hp_M} {G : va_G} {h0 : HP} (X : hp_X M G h0 "java/lang/AbstractStringBuilder" "newCapacity" cJ9_newCapacity 6 (some .int) [] 2 61) (a0 : Nat) (a1 : Int) (h : HP) : vv M G h0 6 (hp_End M G h0) jI h 0 [(0, LR (some a0)), (1, LI a1)] [] (f_J9_newCapacity a0 a1 h) := by
  unfold f_J9_newCapacity
  refine vv_aload_n (pc := 0) X (kf := 0) (i := 0) rfl 0 rfl dJ9_newCapacity_0 ?_
  refine vv_getR (pc := 1) X (fun _ z => by cases List.mem_singleton.mp z; exact fl_J9_15_25) dJ9_newCapacity_1 (fun v1 => ?_)
  refine vv_alen (pc := 4) X dJ9_newCapacity_4 (fun v2 => ?_)
  refine vv_istore_n (pc := 5) (lv' := [(2, LI v2), (0, LR (some a0)), (1, LI a1)]) X (kf := 2) (i := 2) rfl (by decide) rfl dJ9_newCapacity_5 ?_
  refine vv_iload_n (pc := 6) X (kf := 1) (i := 1) rfl 2 rfl dJ9_newCapacity_6 ?_
  refine vv_aload_n (pc := 7) X (kf := 0) (i := 0) rfl 1 rfl dJ9_newCapacity_7 ?_
  refine vv_getI (pc := 8) X (fun _ z => by cases List.mem_singleton.mp z; exact fl_J9_22_25) dJ9_newCapacity_8 (fun v3 => ?_)
  refine vv_ishl (pc := 11) X dJ9_newCapacity_11 ?_
  refine vv_istore_n (pc := 12) (lv' := [(3, LI (iShl a1 v3)), (2, LI v2), (0, LR (some a0)), (1, LI a1)]) X (kf := 3) (i := 3) rfl (by decide) rfl dJ9_newCapacity_12 ?_
  refine vv_iload_n (pc := 13) X (kf := 3) (i := 3) rfl 0 rfl dJ9_newCapacity_13 ?_
  refine vv_iload_n (pc := 14) X (kf := 2) (i := 2) rfl 1 rfl dJ9_newCapacity_14 ?_
  refine vv_isub (pc := 15) X dJ9_newCapacity_15 ?_
  refine vv_istore (pc := 16) (lv' := [(4, LI ((iShl a1 v3) - v2)), (3, LI (iShl a1 v3)), (2, LI v2), (0, LR (some a0)), (1, LI a1)]) X (by decide) rfl dJ9_newCapacity_16 ?_
  refine vv_iload_n (pc := 18) X (kf := 2) (i := 2) rfl 2 rfl dJ9_newCapacity_18 ?_
  refine vv_iload (pc := 19) X 0 rfl dJ9_newCapacity_19 ?_
  refine vv_iload_n (pc := 21) X (kf := 2) (i := 2) rfl 2 rfl dJ9_newCapacity_21 ?_
  refine vv_iconst (pc := 22) X dJ9_newCapacity_22 ?_
  refine vv_aload_n (pc := 23) X (kf := 0) (i := 0) rfl 3 rfl dJ9_newCapacity_23 ?_
  refine vv_getI (pc := 24) X (fun _ z => by cases List.mem_singleton.mp z; exact fl_J9_22_25) dJ9_newCapacity_24 (fun v4 => ?_)
  refine vv_ishl (pc := 27) X dJ9_newCapacity_27 ?_
  refine vv_iadd (pc := 28) X dJ9_newCapacity_28 ?_
  refine vv_callI (pc := 29) (rest := []) (by rfl) (fun r8 k8 e8 => zz_callS X (m_J13_newLength (hlM X) _ _ _ _ _ _ e8) q370 q371 q148 q372 nh_J13 rfl (by decide) (by decide) (Nat.le_of_ble_eq_true rfl) dJ9_newCapacity_29) (fun v5 h6 => ?_)
  refine vv_istore (pc := 32) (lv' := [(5, LI v5), (4, LI ((iShl a1 v3) - v2)), (3, LI (iShl a1 v3)), (2, LI v2), (0, LR (some a0)), (1, LI a1)]) X (by decide) rfl dJ9_newCapacity_32 ?_
  refine vv_iload (pc := 34) X 0 rfl dJ9_newCapacity_34 ?_
  refine vv_ldcI (pc := 36) (n := 2147483647) X q380 (by decide) dJ9_newCapacity_36 ?_
  refine vv_icmp_ne (pc := 38) (tgt := 51) X dJ9_newCapacity_38 rfl ?_ ?_
  · refine vv_iload (pc := 51) X 0 rfl dJ9_newCapacity_51 ?_
    refine vv_aload_n (pc := 53) X (kf := 0) (i := 0) rfl 4 rfl dJ9_newCapacity_53 ?_
    refine vv_getI (pc := 54) X (fun _ z => by cases List.mem_singleton.mp z; exact fl_J9_22_25) dJ9_newCapacity_54 (fun v7 => ?_)
    refine vv_ishr (pc := 57) X dJ9_newCapacity_57 ?_
    exact vv_iretI X rfl rfl dJ9_newCapacity_58
  · exact vv_none
theorem m_J9_newCapacity {l : Launch} (hl : l.stackTraces = false) {G : va_G} (a0 : Nat) (a1 : Int) (h : HP) : ∀ r hf, f_J9_newCapacity a0 a1 h = some (r, hf) → Ct l yJ9_newCapacity (ws_ yJ9_newCapacity cJ9_newCapacity 6 (some .int)) 2 61 G h [.ref a0, .int (iI a1)] (jI r) hf :=
  zz_ofW hl (by decide +kernel) (lv := [(0, LR (some a0)), (1, LI a1)]) (by simp [lv_args, lvL, lvV, zz_rfc, zz_rfs, zz_ci, zz_cr, zz_cj, zz_cf, zz_cd]) (by simp [lg_sl, zz_rfc, zz_ci, zz_cr, zz_cj, zz_cf, zz_cd]) (fun _ X => A_J9_newCapacity X a0 a1 h)
-- J14_min java/lang/Math.min(II)I
noncomputable def b_J14_min_10 (s0 : Int) (h : HP) : Option ((Int) × HP) :=
  some (s0, h)
theorem B_J14_min_10 {M : hp_M} {G : va_G} {h0 : HP} (X : hp_X M G h0 "java/lang/Math" "min" cJ14_min 2 (some .int) [] 0 0) (s0 : Int) (h : HP) : vv M G h0 2 (hp_End M G h0) jI h 10 [] [LI s0] (b_J14_min_10 s0 h) := by
  unfold b_J14_min_10
  exact vv_iretI X rfl rfl dJ14_min_10
noncomputable def f_J14_min (a1 : Int) (a2 : Int) (h : HP) : Option ((Int) × HP) :=
  iLT a2 a1
    (b_J14_min_10 a2 h)
    (b_J14_min_10 a1 h)
theorem A_J14_min {M : hp_M} {G : va_G} {h0 : HP} (X : hp_X M G h0 "java/lang/Math" "min" cJ14_min 2 (some .int) [] 0 0) (a1 : Int) (a2 : Int) (h : HP) : vv M G h0 2 (hp_End M G h0) jI h 0 [(0, LI a1), (1, LI a2)] [] (f_J14_min a1 a2 h) := by
  unfold f_J14_min
  refine vv_iload_n (pc := 0) X (kf := 0) (i := 0) rfl 0 rfl dJ14_min_0 ?_
  refine vv_iload_n (pc := 1) X (kf := 1) (i := 1) rfl 1 rfl dJ14_min_1 ?_
  refine vv_icmp_gt (pc := 2) (tgt := 9) X dJ14_min_2 rfl ?_ ?_
  · refine vv_iload_n (pc := 9) X (kf := 1) (i := 1) rfl 1 rfl dJ14_min_9 ?_
    exact vv_sub [] (by rfl) (B_J14_min_10 X _ _)
  · refine vv_iload_n (pc := 5) X (kf := 0) (i := 0) rfl 0 rfl dJ14_min_5 ?_
    refine vv_goto (pc := 6) (tgt := 10) X dJ14_min_6 rfl ?_
    exact vv_sub [] (by rfl) (B_J14_min_10 X _ _)
theorem m_J14_min {l : Launch} (hl : l.stackTraces = false) {G : va_G} (a1 : Int) (a2 : Int) (h : HP) : ∀ r hf, f_J14_min a1 a2 h = some (r, hf) → Ct l yJ14_min (ws_ yJ14_min cJ14_min 2 (some .int)) 0 0 G h [.int (iI a1), .int (iI a2)] (jI r) hf :=
  zz_ofW hl (by decide +kernel) (lv := [(0, LI a1), (1, LI a2)]) (by simp [lv_args, lvL, lvV, zz_rfc, zz_rfs, zz_ci, zz_cr, zz_cj, zz_cf, zz_cd]) (by simp [lg_sl, zz_rfc, zz_ci, zz_cr, zz_cj, zz_cf, zz_cd]) (fun _ X => A_J14_min X a1 a2 h)
-- J15_copyOf java/util/Arrays.copyOf([BI)[B
noncomputable def f_J15_copyOf (a1 : Option Nat) (a2 : Int) (h : HP) : Option ((Option Nat) × HP) :=
  (alen h a1).bind fun v1 =>
  iEQ a2 v1
    (hb (clB h a1) fun v8 h9 =>
    (chkA h9 v8 .byte).bind fun _ =>
    some (v8, h9))
    (hb (nwI h (tgR h a1) .byte a2) fun v2 h3 =>
    (alen h3 a1).bind fun v4 =>
    hb (f_J14_min v4 a2 h3) fun v5 h6 =>
    (acpI h6 .byte a1 0 v2 0 v5).bind fun h7 =>
    some (v2, h7))
theorem A_J15_copyOf {M : hp_M} {G : va_G} {h0 : HP} (X : hp_X M G h0 "java/util/Arrays" "copyOf" cJ15_copyOf 3 (some (.array .byte)) [] 1 120) (a1 : Option Nat) (a2 : Int) (h : HP) : vv M G h0 3 (hp_End M G h0) jR h 0 [(0, LR a1), (1, LI a2)] [] (f_J15_copyOf a1 a2 h) := by
  unfold f_J15_copyOf
  refine vv_iload_n (pc := 0) X (kf := 1) (i := 1) rfl 1 rfl dJ15_copyOf_0 ?_
  refine vv_aload_n (pc := 1) X (kf := 0) (i := 0) rfl 0 rfl dJ15_copyOf_1 ?_
  refine vv_alen (pc := 2) X dJ15_copyOf_2 (fun v1 => ?_)
  refine vv_icmp_ne (pc := 3) (tgt := 14) X dJ15_copyOf_3 rfl ?_ ?_
  · refine vv_iload_n (pc := 14) X (kf := 1) (i := 1) rfl 1 rfl dJ15_copyOf_14 ?_
    refine vv_newbyte (pc := 15) X dJ15_copyOf_15 (fun v2 h3 => ?_)
    refine vv_astore_n (pc := 17) (lv' := [(2, LR v2), (0, LR a1), (1, LI a2)]) X (kf := 2) (i := 2) rfl (by decide) rfl dJ15_copyOf_17 ?_
    refine vv_aload_n (pc := 18) X (kf := 0) (i := 0) rfl 1 rfl dJ15_copyOf_18 ?_
    refine vv_iconst (pc := 19) X dJ15_copyOf_19 ?_
    refine vv_aload_n (pc := 20) X (kf := 2) (i := 2) rfl 0 rfl dJ15_copyOf_20 ?_
    refine vv_iconst (pc := 21) X dJ15_copyOf_21 ?_
    refine vv_aload_n (pc := 22) X (kf := 0) (i := 0) rfl 1 rfl dJ15_copyOf_22 ?_
    refine vv_alen (pc := 23) X dJ15_copyOf_23 (fun v4 => ?_)
    refine vv_iload_n (pc := 24) X (kf := 1) (i := 1) rfl 2 rfl dJ15_copyOf_24 ?_
    refine vv_callI (pc := 25) (rest := [LI 0, LR v2, LI 0, LR a1]) (by rfl) (fun r8 k8 e8 => zz_callS X (m_J14_min (hlM X) _ _ _ _ _ e8) q391 q392 q149 q393 nh_J14 rfl (by decide) (by decide) (Nat.le_of_ble_eq_true rfl) dJ15_copyOf_25) (fun v5 h6 => ?_)
    refine vv_arraycopy (pc := 28) X q394 q396 q395 q151 (by decide) (by decide) (Nat.le_of_ble_eq_true rfl) dJ15_copyOf_28 (fun h7 => ?_)
    refine vv_aload_n (pc := 31) X (kf := 2) (i := 2) rfl 0 rfl dJ15_copyOf_31 ?_
    exact vv_aretA X rfl rfl dJ15_copyOf_32
  · refine vv_aload_n (pc := 6) X (kf := 0) (i := 0) rfl 0 rfl dJ15_copyOf_6 ?_
    refine vv_cloneB (pc := 7) X q384 (by decide) (by decide) (Nat.le_of_ble_eq_true rfl) dJ15_copyOf_7 (fun v8 h9 => ?_)
    refine vv_checkcastB (pc := 10) X q390 dJ15_copyOf_10 ?_
    exact vv_aretA X rfl rfl dJ15_copyOf_13
theorem m_J15_copyOf {l : Launch} (hl : l.stackTraces = false) {G : va_G} (a1 : Option Nat) (a2 : Int) (h : HP) : ∀ r hf, f_J15_copyOf a1 a2 h = some (r, hf) → Ct l yJ15_copyOf (ws_ yJ15_copyOf cJ15_copyOf 3 (some (.array .byte))) 1 120 G h [va_rf a1, .int (iI a2)] (jR r) hf :=
  zz_ofW hl (by decide +kernel) (lv := [(0, LR a1), (1, LI a2)]) (by simp [lv_args, lvL, lvV, zz_rfc, zz_rfs, zz_ci, zz_cr, zz_cj, zz_cf, zz_cd]) (by simp [lg_sl, zz_rfc, zz_ci, zz_cr, zz_cj, zz_cf, zz_cd]) (fun _ X => A_J15_copyOf X a1 a2 h)
-- J9_ensureCapacityInternal java/lang/AbstractStringBuilder.ensureCapacityInternal(I)V
noncomputable def b_J9_ensureCapacityInternal_38 (h : HP) : Option ((Unit) × HP) :=
  some ((), h)
theorem B_J9_ensureCapacityInternal_38 {M : hp_M} {G : va_G} {h0 : HP} (X : hp_X M G h0 "java/lang/AbstractStringBuilder" "ensureCapacityInternal" cJ9_ensureCapacityInternal 3 none [] 3 150) (h : HP) : vv M G h0 3 (hp_End M G h0) jV h 38 [] [] (b_J9_ensureCapacityInternal_38 h) := by
  unfold b_J9_ensureCapacityInternal_38
  exact vv_vreturn X rfl rfl dJ9_ensureCapacityInternal_38
noncomputable def f_J9_ensureCapacityInternal (a0 : Nat) (a1 : Int) (h : HP) : Option ((Unit) × HP) :=
  (rdR h (some a0) [25] 0).bind fun v1 =>
  (alen h v1).bind fun v2 =>
  (rdI h (some a0) [25] 1).bind fun v3 =>
  iLE (a1 - (iShr v2 v3)) 0
    (b_J9_ensureCapacityInternal_38 h)
    ((rdR h (some a0) [25] 0).bind fun v4 =>
    (rcv h (some a0) [25]).bind fun b7 =>
    hb (f_J9_newCapacity b7 a1 h) fun v5 h6 =>
    (rdI h6 (some a0) [25] 1).bind fun v9 =>
    hb (f_J15_copyOf v4 (iShl v5 v9) h6) fun v10 h11 =>
    (wrR h11 (some a0) [25] 0 v10).bind fun h12 =>
    b_J9_ensureCapacityInternal_38 h12)
theorem A_J9_ensureCapacityInternal {M : hp_M} {G : va_G} {h0 : HP} (X : hp_X M G h0 "java/lang/AbstractStringBuilder" "ensureCapacityInternal" cJ9_ensureCapacityInternal 3 none [] 3 150) (a0 : Nat) (a1 : Int) (h : HP) : vv M G h0 3 (hp_End M G h0) jV h 0 [(0, LR (some a0)), (1, LI a1)] [] (f_J9_ensureCapacityInternal a0 a1 h) := by
  unfold f_J9_ensureCapacityInternal
  refine vv_aload_n (pc := 0) X (kf := 0) (i := 0) rfl 0 rfl dJ9_ensureCapacityInternal_0 ?_
  refine vv_getR (pc := 1) X (fun _ z => by cases List.mem_singleton.mp z; exact fl_J9_15_25) dJ9_ensureCapacityInternal_1 (fun v1 => ?_)
  refine vv_alen (pc := 4) X dJ9_ensureCapacityInternal_4 (fun v2 => ?_)
  refine vv_aload_n (pc := 5) X (kf := 0) (i := 0) rfl 0 rfl dJ9_ensureCapacityInternal_5 ?_
  refine vv_getI (pc := 6) X (fun _ z => by cases List.mem_singleton.mp z; exact fl_J9_22_25) dJ9_ensureCapacityInternal_6 (fun v3 => ?_)
  refine vv_ishr (pc := 9) X dJ9_ensureCapacityInternal_9 ?_
  refine vv_istore_n (pc := 10) (lv' := [(2, LI (iShr v2 v3)), (0, LR (some a0)), (1, LI a1)]) X (kf := 2) (i := 2) rfl (by decide) rfl dJ9_ensureCapacityInternal_10 ?_
  refine vv_iload_n (pc := 11) X (kf := 1) (i := 1) rfl 2 rfl dJ9_ensureCapacityInternal_11 ?_
  refine vv_iload_n (pc := 12) X (kf := 2) (i := 2) rfl 0 rfl dJ9_ensureCapacityInternal_12 ?_
  refine vv_isub (pc := 13) X dJ9_ensureCapacityInternal_13 ?_
  refine vv_if_le (pc := 14) (tgt := 38) X dJ9_ensureCapacityInternal_14 rfl ?_ ?_
  · exact vv_sub [] (by rfl) (B_J9_ensureCapacityInternal_38 X _)
  · refine vv_aload_n (pc := 17) X (kf := 0) (i := 0) rfl 1 rfl dJ9_ensureCapacityInternal_17 ?_
    refine vv_aload_n (pc := 18) X (kf := 0) (i := 0) rfl 1 rfl dJ9_ensureCapacityInternal_18 ?_
    refine vv_getR (pc := 19) X (fun _ z => by cases List.mem_singleton.mp z; exact fl_J9_15_25) dJ9_ensureCapacityInternal_19 (fun v4 => ?_)
    refine vv_aload_n (pc := 22) X (kf := 0) (i := 0) rfl 1 rfl dJ9_ensureCapacityInternal_22 ?_
    refine vv_iload_n (pc := 23) X (kf := 1) (i := 1) rfl 2 rfl dJ9_ensureCapacityInternal_23 ?_
    refine vv_rcv (fun b7 t9 c9 fs9 e8 g9 k9 => ?_)
    cases List.mem_singleton.mp k9
    refine vv_callI (pc := 24) (rest := [LR v4, LR (some a0)]) (by rw [e8]; rfl) (fun r8 k8 e8 => zz_callP X (m_J9_newCapacity (hlM X) _ _ _ _ _ e8) g9 rfl q366 q368 q367 q512 rfl q144 q369 nh_J9 rfl (by decide) (by decide) (Nat.le_of_ble_eq_true rfl) dJ9_ensureCapacityInternal_24) (fun v5 h6 => ?_)
    refine vv_aload_n (pc := 27) X (kf := 0) (i := 0) rfl 1 rfl dJ9_ensureCapacityInternal_27 ?_
    refine vv_getI (pc := 28) X (fun _ z => by cases List.mem_singleton.mp z; exact fl_J9_22_25) dJ9_ensureCapacityInternal_28 (fun v9 => ?_)
    refine vv_ishl (pc := 31) X dJ9_ensureCapacityInternal_31 ?_
    refine vv_callR (pc := 32) (rest := [LR (some a0)]) (by rfl) (fun r8 k8 e8 => zz_callS X (m_J15_copyOf (hlM X) _ _ _ _ _ e8) q381 q382 q150 q383 nh_J15 rfl (by decide) (by decide) (Nat.le_of_ble_eq_true rfl) dJ9_ensureCapacityInternal_32) (fun v10 h11 => ?_)
    refine vv_putR (pc := 35) (ty9 := (.array .byte)) (fin := false) X (fun _ z => by cases List.mem_singleton.mp z; exact fl_J9_15_25) (fun z => nomatch z) (fun z => nomatch z) (by decide +kernel) rfl dJ9_ensureCapacityInternal_35 (fun h12 => ?_)
    exact vv_sub [] (by rfl) (B_J9_ensureCapacityInternal_38 X _)
theorem m_J9_ensureCapacityInternal {l : Launch} (hl : l.stackTraces = false) {G : va_G} (a0 : Nat) (a1 : Int) (h : HP) : ∀ r hf, f_J9_ensureCapacityInternal a0 a1 h = some (r, hf) → Ct l yJ9_ensureCapacityInternal (ws_ yJ9_ensureCapacityInternal cJ9_ensureCapacityInternal 3 none) 3 150 G h [.ref a0, .int (iI a1)] (jV r) hf :=
  zz_ofW hl (by decide +kernel) (lv := [(0, LR (some a0)), (1, LI a1)]) (by simp [lv_args, lvL, lvV, zz_rfc, zz_rfs, zz_ci, zz_cr, zz_cj, zz_cf, zz_cd]) (by simp [lg_sl, zz_rfc, zz_ci, zz_cr, zz_cj, zz_cf, zz_cd]) (fun _ X => A_J9_ensureCapacityInternal X a0 a1 h)
-- J9_isLatin1 java/lang/AbstractStringBuilder.isLatin1()Z
noncomputable def b_J9_isLatin1_18 (s0 : Int) (h : HP) : Option ((Int) × HP) :=
  rtZ s0 (some (s0, h))
theorem B_J9_isLatin1_18 {M : hp_M} {G : va_G} {h0 : HP} (X : hp_X M G h0 "java/lang/AbstractStringBuilder" "isLatin1" cJ9_isLatin1 1 (some .boolean) [] 0 0) (s0 : Int) (h : HP) : vv M G h0 1 (hp_End M G h0) jI h 18 [] [LI s0] (b_J9_isLatin1_18 s0 h) := by
  unfold b_J9_isLatin1_18
  exact vv_iretZ X rfl rfl dJ9_isLatin1_18
noncomputable def b_J9_isLatin1_17 (h : HP) : Option ((Int) × HP) :=
  b_J9_isLatin1_18 0 h
theorem B_J9_isLatin1_17 {M : hp_M} {G : va_G} {h0 : HP} (X : hp_X M G h0 "java/lang/AbstractStringBuilder" "isLatin1" cJ9_isLatin1 1 (some .boolean) [] 0 0) (h : HP) : vv M G h0 1 (hp_End M G h0) jI h 17 [] [] (b_J9_isLatin1_17 h) := by
  unfold b_J9_isLatin1_17
  refine vv_iconst (pc := 17) X dJ9_isLatin1_17 ?_
  exact B_J9_isLatin1_18 X _ _
noncomputable def f_J9_isLatin1 (a0 : Nat) (h : HP) : Option ((Int) × HP) :=
  iEQ 1 0
    (b_J9_isLatin1_17 h)
    ((rdI h (some a0) [25] 1).bind fun v1 =>
    iEQ v1 0
      (b_J9_isLatin1_18 1 h)
      (b_J9_isLatin1_17 h))
theorem A_J9_isLatin1 {M : hp_M} {G : va_G} {h0 : HP} (X : hp_X M G h0 "java/lang/AbstractStringBuilder" "isLatin1" cJ9_isLatin1 1 (some .boolean) [] 0 0) (a0 : Nat) (h : HP) : vv M G h0 1 (hp_End M G h0) jI h 0 [(0, LR (some a0))] [] (f_J9_isLatin1 a0 h) := by
  unfold f_J9_isLatin1
  refine vv_gets (pc := 0) (w := LI 1) X (gs_0 _) rfl q327 dJ9_isLatin1_0 ?_
  refine vv_if_eq (pc := 3) (tgt := 17) X dJ9_isLatin1_3 rfl ?_ ?_
  · exact vv_sub [] (by rfl) (B_J9_isLatin1_17 X _)
  · refine vv_aload_n (pc := 6) X (kf := 0) (i := 0) rfl 0 rfl dJ9_isLatin1_6 ?_
    refine vv_getI (pc := 7) X (fun _ z => by cases List.mem_singleton.mp z; exact fl_J9_22_25) dJ9_isLatin1_7 (fun v1 => ?_)
    refine vv_if_ne (pc := 10) (tgt := 17) X dJ9_isLatin1_10 rfl ?_ ?_
    · exact vv_sub [] (by rfl) (B_J9_isLatin1_17 X _)
    · refine vv_iconst (pc := 13) X dJ9_isLatin1_13 ?_
      refine vv_goto (pc := 14) (tgt := 18) X dJ9_isLatin1_14 rfl ?_
      exact vv_sub [] (by rfl) (B_J9_isLatin1_18 X _ _)
theorem m_J9_isLatin1 {l : Launch} (hl : l.stackTraces = false) {G : va_G} (a0 : Nat) (h : HP) : ∀ r hf, f_J9_isLatin1 a0 h = some (r, hf) → Ct l yJ9_isLatin1 (ws_ yJ9_isLatin1 cJ9_isLatin1 1 (some .boolean)) 0 0 G h [.ref a0] (jI r) hf :=
  zz_ofW hl (by decide +kernel) (lv := [(0, LR (some a0))]) (by simp [lv_args, lvL, lvV, zz_rfc, zz_rfs, zz_ci, zz_cr, zz_cj, zz_cf, zz_cd]) (by simp [lg_sl, zz_rfc, zz_ci, zz_cr, zz_cj, zz_cf, zz_cd]) (fun _ X => A_J9_isLatin1 X a0 h)
-- J17_canEncode java/lang/StringLatin1.canEncode(C)Z
noncomputable def b_J17_canEncode_12 (s0 : Int) (h : HP) : Option ((Int) × HP) :=
  rtZ s0 (some (s0, h))
theorem B_J17_canEncode_12 {M : hp_M} {G : va_G} {h0 : HP} (X : hp_X M G h0 "java/lang/StringLatin1" "canEncode" cJ17_canEncode 1 (some .boolean) [] 0 0) (s0 : Int) (h : HP) : vv M G h0 1 (hp_End M G h0) jI h 12 [] [LI s0] (b_J17_canEncode_12 s0 h) := by
  unfold b_J17_canEncode_12
  exact vv_iretZ X rfl rfl dJ17_canEncode_12
noncomputable def f_J17_canEncode (a1 : Int) (h : HP) : Option ((Int) × HP) :=
  iLT 255 a1
    (b_J17_canEncode_12 0 h)
    (b_J17_canEncode_12 1 h)
theorem A_J17_canEncode {M : hp_M} {G : va_G} {h0 : HP} (X : hp_X M G h0 "java/lang/StringLatin1" "canEncode" cJ17_canEncode 1 (some .boolean) [] 0 0) (a1 : Int) (h : HP) : vv M G h0 1 (hp_End M G h0) jI h 0 [(0, LI a1)] [] (f_J17_canEncode a1 h) := by
  unfold f_J17_canEncode
  refine vv_iload_n (pc := 0) X (kf := 0) (i := 0) rfl 0 rfl dJ17_canEncode_0 ?_
  refine vv_sipush (pc := 1) X (by decide) dJ17_canEncode_1 ?_
  refine vv_icmp_gt (pc := 4) (tgt := 11) X dJ17_canEncode_4 rfl ?_ ?_
  · refine vv_iconst (pc := 11) X dJ17_canEncode_11 ?_
    exact vv_sub [] (by rfl) (B_J17_canEncode_12 X _ _)
  · refine vv_iconst (pc := 7) X dJ17_canEncode_7 ?_
    refine vv_goto (pc := 8) (tgt := 12) X dJ17_canEncode_8 rfl ?_
    exact vv_sub [] (by rfl) (B_J17_canEncode_12 X _ _)
theorem m_J17_canEncode {l : Launch} (hl : l.stackTraces = false) {G : va_G} (a1 : Int) (h : HP) : ∀ r hf, f_J17_canEncode a1 h = some (r, hf) → Ct l yJ17_canEncode (ws_ yJ17_canEncode cJ17_canEncode 1 (some .boolean)) 0 0 G h [.int (iI a1)] (jI r) hf :=
  zz_ofW hl (by decide +kernel) (lv := [(0, LI a1)]) (by simp [lv_args, lvL, lvV, zz_rfc, zz_rfs, zz_ci, zz_cr, zz_cj, zz_cf, zz_cd]) (by simp [lg_sl, zz_rfc, zz_ci, zz_cr, zz_cj, zz_cf, zz_cd]) (fun _ X => A_J17_canEncode X a1 h)
-- J9_append_3 java/lang/AbstractStringBuilder.append(C)Ljava/lang/AbstractStringBuilder;
noncomputable def b_J9_append_3_45 (x0 : Option Nat) (x1 : Int) (h : HP) : Option ((Option Nat) × HP) :=
  (rcv h x0 [25]).bind fun b12 =>
  hb (f_J9_isLatin1 b12 h) fun v10 h11 =>
  iEQ v10 0
    ((rdR h11 x0 [25] 0).bind fun v14 =>
    (rdI h11 x0 [25] 3).bind fun v15 =>
    (wrI h11 x0 [25] 3 (v15 + 1)).bind fun h16 =>
    none)
    (none)
theorem B_J9_append_3_45 {M : hp_M} {G : va_G} {h0 : HP} (X : hp_X M G h0 "java/lang/AbstractStringBuilder" "append" cJ9_append_3 2 (some (.object "java/lang/AbstractStringBuilder")) [] 4 180) (x0 : Option Nat) (x1 : Int) (h : HP) : vv M G h0 2 (hp_End M G h0) jR h 45 [(0, LR x0), (1, LI x1)] [] (b_J9_append_3_45 x0 x1 h) := by
  unfold b_J9_append_3_45
  refine vv_aload_n (pc := 45) X (kf := 0) (i := 0) rfl 0 rfl dJ9_append_3_45 ?_
  refine vv_rcv (fun b12 t9 c9 fs9 e13 g9 k9 => ?_)
  cases List.mem_singleton.mp k9
  refine vv_callI (pc := 46) (rest := []) (by rw [e13]; rfl) (fun r8 k8 e8 => zz_callW X (m_J9_isLatin1 (hlM X) _ _ _ _ e8) g9 rfl q397 q398 q400 q144 q401 nh_J9 rfl (by decide) (by decide) (Nat.le_of_ble_eq_true rfl) dJ9_append_3_46) (fun v10 h11 => ?_)
  refine vv_if_eq (pc := 49) (tgt := 56) X dJ9_append_3_49 rfl ?_ ?_
  · refine vv_aload_n (pc := 56) X (kf := 0) (i := 0) rfl 0 rfl dJ9_append_3_56 ?_
    refine vv_getR (pc := 57) X (fun _ z => by cases List.mem_singleton.mp z; exact fl_J9_15_25) dJ9_append_3_57 (fun v14 => ?_)
    refine vv_aload_n (pc := 60) X (kf := 0) (i := 0) rfl 0 rfl dJ9_append_3_60 ?_
    refine vv_dup (pc := 61) X rfl dJ9_append_3_61 ?_
    refine vv_getI (pc := 62) X (fun _ z => by cases List.mem_singleton.mp z; exact fl_J9_79_25) dJ9_append_3_62 (fun v15 => ?_)
    refine vv_dup_x1 (pc := 65) X rfl rfl dJ9_append_3_65 ?_
    refine vv_iconst (pc := 66) X dJ9_append_3_66 ?_
    refine vv_iadd (pc := 67) X dJ9_append_3_67 ?_
    refine vv_putI (pc := 68) (fin := false) X (fun _ z => by cases List.mem_singleton.mp z; exact fl_J9_79_25) (fun z => nomatch z) (fun z => nomatch z) dJ9_append_3_68 (fun h16 => ?_)
    refine vv_iload_n (pc := 71) X (kf := 1) (i := 1) rfl 1 rfl dJ9_append_3_71 ?_
    exact vv_none
  · refine vv_aload_n (pc := 52) X (kf := 0) (i := 0) rfl 0 rfl dJ9_append_3_52 ?_
    exact vv_none
noncomputable def f_J9_append_3 (a0 : Nat) (a1 : Int) (h : HP) : Option ((Option Nat) × HP) :=
  (rdI h (some a0) [25] 3).bind fun v1 =>
  (rcv h (some a0) [25]).bind fun b4 =>
  hb (f_J9_ensureCapacityInternal b4 (v1 + 1) h) fun _ h3 =>
  (rcv h3 (some a0) [25]).bind fun b8 =>
  hb (f_J9_isLatin1 b8 h3) fun v6 h7 =>
  iEQ v6 0
    (b_J9_append_3_45 (some a0) a1 h7)
    (hb (f_J17_canEncode a1 h7) fun v17 h18 =>
    iEQ v17 0
      (b_J9_append_3_45 (some a0) a1 h18)
      ((rdR h18 (some a0) [25] 0).bind fun v19 =>
      (rdI h18 (some a0) [25] 3).bind fun v20 =>
      (wrI h18 (some a0) [25] 3 (v20 + 1)).bind fun h21 =>
      (astB h21 v19 v20 (iB a1)).bind fun h22 =>
      some ((some a0), h22)))
theorem A_J9_append_3 {M : hp_M} {G : va_G} {h0 : HP} (X : hp_X M G h0 "java/lang/AbstractStringBuilder" "append" cJ9_append_3 2 (some (.object "java/lang/AbstractStringBuilder")) [] 4 180) (a0 : Nat) (a1 : Int) (h : HP) : vv M G h0 2 (hp_End M G h0) jR h 0 [(0, LR (some a0)), (1, LI a1)] [] (f_J9_append_3 a0 a1 h) := by
  unfold f_J9_append_3
  refine vv_aload_n (pc := 0) X (kf := 0) (i := 0) rfl 0 rfl dJ9_append_3_0 ?_
  refine vv_aload_n (pc := 1) X (kf := 0) (i := 0) rfl 0 rfl dJ9_append_3_1 ?_
  refine vv_getI (pc := 2) X (fun _ z => by cases List.mem_singleton.mp z; exact fl_J9_79_25) dJ9_append_3_2 (fun v1 => ?_)
  refine vv_iconst (pc := 5) X dJ9_append_3_5 ?_
  refine vv_iadd (pc := 6) X dJ9_append_3_6 ?_
  refine vv_rcv (fun b4 t9 c9 fs9 e5 g9 k9 => ?_)
  cases List.mem_singleton.mp k9
  refine vv_callV (pc := 7) (rest := []) (by rw [e5]; rfl) (fun r8 k8 e8 => zz_callP X (m_J9_ensureCapacityInternal (hlM X) _ _ _ _ _ e8) g9 rfl q362 q364 q363 q512 rfl q144 q365 nh_J9 rfl (by decide) (by decide) (Nat.le_of_ble_eq_true rfl) dJ9_append_3_7) (fun v2 h3 => ?_)
  refine vv_aload_n (pc := 10) X (kf := 0) (i := 0) rfl 0 rfl dJ9_append_3_10 ?_
  refine vv_rcv (fun b8 t9 c9 fs9 e9 g9 k9 => ?_)
  cases List.mem_singleton.mp k9
  refine vv_callI (pc := 11) (rest := []) (by rw [e9]; rfl) (fun r8 k8 e8 => zz_callW X (m_J9_isLatin1 (hlM X) _ _ _ _ e8) g9 rfl q397 q398 q400 q144 q401 nh_J9 rfl (by decide) (by decide) (Nat.le_of_ble_eq_true rfl) dJ9_append_3_11) (fun v6 h7 => ?_)
  refine vv_if_eq (pc := 14) (tgt := 45) X dJ9_append_3_14 rfl ?_ ?_
  · exact B_J9_append_3_45 X _ _ _
  · refine vv_iload_n (pc := 17) X (kf := 1) (i := 1) rfl 1 rfl dJ9_append_3_17 ?_
    refine vv_callI (pc := 18) (rest := []) (by rfl) (fun r8 k8 e8 => zz_callS X (m_J17_canEncode (hlM X) _ _ _ _ e8) q884 q885 q153 q886 nh_J17 rfl (by decide) (by decide) (Nat.le_of_ble_eq_true rfl) dJ9_append_3_18) (fun v17 h18 => ?_)
    refine vv_if_eq (pc := 21) (tgt := 45) X dJ9_append_3_21 rfl ?_ ?_
    · exact B_J9_append_3_45 X _ _ _
    · refine vv_aload_n (pc := 24) X (kf := 0) (i := 0) rfl 0 rfl dJ9_append_3_24 ?_
      refine vv_getR (pc := 25) X (fun _ z => by cases List.mem_singleton.mp z; exact fl_J9_15_25) dJ9_append_3_25 (fun v19 => ?_)
      refine vv_aload_n (pc := 28) X (kf := 0) (i := 0) rfl 0 rfl dJ9_append_3_28 ?_
      refine vv_dup (pc := 29) X rfl dJ9_append_3_29 ?_
      refine vv_getI (pc := 30) X (fun _ z => by cases List.mem_singleton.mp z; exact fl_J9_79_25) dJ9_append_3_30 (fun v20 => ?_)
      refine vv_dup_x1 (pc := 33) X rfl rfl dJ9_append_3_33 ?_
      refine vv_iconst (pc := 34) X dJ9_append_3_34 ?_
      refine vv_iadd (pc := 35) X dJ9_append_3_35 ?_
      refine vv_putI (pc := 36) (fin := false) X (fun _ z => by cases List.mem_singleton.mp z; exact fl_J9_79_25) (fun z => nomatch z) (fun z => nomatch z) dJ9_append_3_36 (fun h21 => ?_)
      refine vv_iload_n (pc := 39) X (kf := 1) (i := 1) rfl 1 rfl dJ9_append_3_39 ?_
      refine vv_i2b (pc := 40) X dJ9_append_3_40 ?_
      refine vv_bastore (pc := 41) X dJ9_append_3_41 (fun h22 => ?_)
      refine vv_goto (pc := 42) (tgt := 75) X dJ9_append_3_42 rfl ?_
      refine vv_aload_n (pc := 75) X (kf := 0) (i := 0) rfl 0 rfl dJ9_append_3_75 ?_
      exact vv_aretO X rfl rfl dJ9_append_3_76
theorem m_J9_append_3 {l : Launch} (hl : l.stackTraces = false) {G : va_G} (a0 : Nat) (a1 : Int) (h : HP) : ∀ r hf, f_J9_append_3 a0 a1 h = some (r, hf) → Ct l yJ9_append_3 (ws_ yJ9_append_3 cJ9_append_3 2 (some (.object "java/lang/AbstractStringBuilder"))) 4 180 G h [.ref a0, .int (iI a1)] (jR r) hf :=
  zz_ofW hl (by decide +kernel) (lv := [(0, LR (some a0)), (1, LI a1)]) (by simp [lv_args, lvL, lvV, zz_rfc, zz_rfs, zz_ci, zz_cr, zz_cj, zz_cf, zz_cd]) (by simp [lg_sl, zz_rfc, zz_ci, zz_cr, zz_cj, zz_cf, zz_cd]) (fun _ X => A_J9_append_3 X a0 a1 h)
-- J10_append_3 java/lang/StringBuilder.append(C)Ljava/lang/StringBuilder;
noncomputable def f_J10_append_3 (a0 : Nat) (a1 : Int) (h : HP) : Option ((Option Nat) × HP) :=
  (rcv h (some a0) [25]).bind fun b4 =>
  hb (f_J9_append_3 b4 a1 h) fun v1 h2 =>
  some ((some a0), h2)
theorem A_J10_append_3 {M : hp_M} {G : va_G} {h0 : HP} (X : hp_X M G h0 "java/lang/StringBuilder" "append" cJ10_append_3 2 (some (.object "java/lang/StringBuilder")) [] 5 209) (a0 : Nat) (a1 : Int) (h : HP) : vv M G h0 2 (hp_End M G h0) jR h 0 [(0, LR (some a0)), (1, LI a1)] [] (f_J10_append_3 a0 a1 h) := by
  unfold f_J10_append_3
  refine vv_aload_n (pc := 0) X (kf := 0) (i := 0) rfl 0 rfl dJ10_append_3_0 ?_
  refine vv_iload_n (pc := 1) X (kf := 1) (i := 1) rfl 1 rfl dJ10_append_3_1 ?_
  refine vv_rcv (fun b4 t9 c9 fs9 e5 g9 k9 => ?_)
  cases List.mem_singleton.mp k9
  refine vv_callR (pc := 2) (rest := []) (by rw [e5]; rfl) (fun r8 k8 e8 => zz_callSU X (m_J9_append_3 (hlM X) _ _ _ _ _ e8) g9 rfl q881 q4097 q348 q882 q144 q883 (by decide) rfl (by decide) (by decide) (Nat.le_of_ble_eq_true rfl) dJ10_append_3_2) (fun v1 h2 => ?_)
  refine vv_pop (pc := 5) X rfl dJ10_append_3_5 ?_
  refine vv_aload_n (pc := 6) X (kf := 0) (i := 0) rfl 0 rfl dJ10_append_3_6 ?_
  exact vv_aretO X rfl rfl dJ10_append_3_7
theorem m_J10_append_3 {l : Launch} (hl : l.stackTraces = false) {G : va_G} (a0 : Nat) (a1 : Int) (h : HP) : ∀ r hf, f_J10_append_3 a0 a1 h = some (r, hf) → Ct l yJ10_append_3 (ws_ yJ10_append_3 cJ10_append_3 2 (some (.object "java/lang/StringBuilder"))) 5 209 G h [.ref a0, .int (iI a1)] (jR r) hf :=
  zz_ofW hl (by decide +kernel) (lv := [(0, LR (some a0)), (1, LI a1)]) (by simp [lv_args, lvL, lvV, zz_rfc, zz_rfs, zz_ci, zz_cr, zz_cj, zz_cf, zz_cd]) (by simp [lg_sl, zz_rfc, zz_ci, zz_cr, zz_cj, zz_cf, zz_cd]) (fun _ X => A_J10_append_3 X a0 a1 h)
-- J9_getValue java/lang/AbstractStringBuilder.getValue()[B
noncomputable def f_J9_getValue (a0 : Nat) (h : HP) : Option ((Option Nat) × HP) :=
  (rdR h (some a0) [25] 0).bind fun v1 =>
  some (v1, h)
theorem A_J9_getValue {M : hp_M} {G : va_G} {h0 : HP} (X : hp_X M G h0 "java/lang/AbstractStringBuilder" "getValue" cJ9_getValue 1 (some (.array .byte)) [] 0 0) (a0 : Nat) (h : HP) : vv M G h0 1 (hp_End M G h0) jR h 0 [(0, LR (some a0))] [] (f_J9_getValue a0 h) := by
  unfold f_J9_getValue
  refine vv_aload_n (pc := 0) X (kf := 0) (i := 0) rfl 0 rfl dJ9_getValue_0 ?_
  refine vv_getR (pc := 1) X (fun _ z => by cases List.mem_singleton.mp z; exact fl_J9_15_25) dJ9_getValue_1 (fun v1 => ?_)
  exact vv_aretA X rfl rfl dJ9_getValue_4
theorem m_J9_getValue {l : Launch} (hl : l.stackTraces = false) {G : va_G} (a0 : Nat) (h : HP) : ∀ r hf, f_J9_getValue a0 h = some (r, hf) → Ct l yJ9_getValue (ws_ yJ9_getValue cJ9_getValue 1 (some (.array .byte))) 0 0 G h [.ref a0] (jR r) hf :=
  zz_ofW hl (by decide +kernel) (lv := [(0, LR (some a0))]) (by simp [lv_args, lvL, lvV, zz_rfc, zz_rfs, zz_ci, zz_cr, zz_cj, zz_cf, zz_cd]) (by simp [lg_sl, zz_rfc, zz_ci, zz_cr, zz_cj, zz_cf, zz_cd]) (fun _ X => A_J9_getValue X a0 h)
-- J9_length java/lang/AbstractStringBuilder.length()I
noncomputable def f_J9_length (a0 : Nat) (h : HP) : Option ((Int) × HP) :=
  (rdI h (some a0) [25] 3).bind fun v1 =>
  some (v1, h)
theorem A_J9_length {M : hp_M} {G : va_G} {h0 : HP} (X : hp_X M G h0 "java/lang/AbstractStringBuilder" "length" cJ9_length 1 (some .int) [] 0 0) (a0 : Nat) (h : HP) : vv M G h0 1 (hp_End M G h0) jI h 0 [(0, LR (some a0))] [] (f_J9_length a0 h) := by
  unfold f_J9_length
  refine vv_aload_n (pc := 0) X (kf := 0) (i := 0) rfl 0 rfl dJ9_length_0 ?_
  refine vv_getI (pc := 1) X (fun _ z => by cases List.mem_singleton.mp z; exact fl_J9_79_25) dJ9_length_1 (fun v1 => ?_)
  exact vv_iretI X rfl rfl dJ9_length_4
theorem m_J9_length {l : Launch} (hl : l.stackTraces = false) {G : va_G} (a0 : Nat) (h : HP) : ∀ r hf, f_J9_length a0 h = some (r, hf) → Ct l yJ9_length (ws_ yJ9_length cJ9_length 1 (some .int)) 0 0 G h [.ref a0] (jI r) hf :=
  zz_ofW hl (by decide +kernel) (lv := [(0, LR (some a0))]) (by simp [lv_args, lvL, lvV, zz_rfc, zz_rfs, zz_ci, zz_cr, zz_cj, zz_cf, zz_cd]) (by simp [lg_sl, zz_rfc, zz_ci, zz_cr, zz_cj, zz_cf, zz_cd]) (fun _ X => A_J9_length X a0 h)
-- J10_length java/lang/StringBuilder.length()I
noncomputable def f_J10_length (a0 : Nat) (h : HP) : Option ((Int) × HP) :=
  (rcv h (some a0) [25]).bind fun b4 =>
  hb (f_J9_length b4 h) fun v1 h2 =>
  some (v1, h2)
theorem A_J10_length {M : hp_M} {G : va_G} {h0 : HP} (X : hp_X M G h0 "java/lang/StringBuilder" "length" cJ10_length 1 (some .int) [] 1 28) (a0 : Nat) (h : HP) : vv M G h0 1 (hp_End M G h0) jI h 0 [(0, LR (some a0))] [] (f_J10_length a0 h) := by
  unfold f_J10_length
  refine vv_aload_n (pc := 0) X (kf := 0) (i := 0) rfl 0 rfl dJ10_length_0 ?_
  refine vv_rcv (fun b4 t9 c9 fs9 e5 g9 k9 => ?_)
  cases List.mem_singleton.mp k9
  refine vv_callI (pc := 1) (rest := []) (by rw [e5]; rfl) (fun r8 k8 e8 => zz_callSU X (m_J9_length (hlM X) _ _ _ _ e8) g9 rfl q520 q516 q348 q515 q144 q521 (by decide) rfl (by decide) (by decide) (Nat.le_of_ble_eq_true rfl) dJ10_length_1) (fun v1 h2 => ?_)
  exact vv_iretI X rfl rfl dJ10_length_4
theorem m_J10_length {l : Launch} (hl : l.stackTraces = false) {G : va_G} (a0 : Nat) (h : HP) : ∀ r hf, f_J10_length a0 h = some (r, hf) → Ct l yJ10_length (ws_ yJ10_length cJ10_length 1 (some .int)) 1 28 G h [.ref a0] (jI r) hf :=
  zz_ofW hl (by decide +kernel) (lv := [(0, LR (some a0))]) (by simp [lv_args, lvL, lvV, zz_rfc, zz_rfs, zz_ci, zz_cr, zz_cj, zz_cf, zz_cd]) (by simp [lg_sl, zz_rfc, zz_ci, zz_cr, zz_cj, zz_cf, zz_cd]) (fun _ X => A_J10_length X a0 h)
-- J15_checkLength java/util/Arrays.checkLength(II)V
noncomputable def f_J15_checkLength (a1 : Int) (a2 : Int) (h : HP) : Option ((Unit) × HP) :=
  iLE a1 a2
    (some ((), h))
    (none)
theorem A_J15_checkLength {M : hp_M} {G : va_G} {h0 : HP} (X : hp_X M G h0 "java/util/Arrays" "checkLength" cJ15_checkLength 2 none [] 0 0) (a1 : Int) (a2 : Int) (h : HP) : vv M G h0 2 (hp_End M G h0) jV h 0 [(0, LI a1), (1, LI a2)] [] (f_J15_checkLength a1 a2 h) := by
  unfold f_J15_checkLength
  refine vv_iload_n (pc := 0) X (kf := 1) (i := 1) rfl 1 rfl dJ15_checkLength_0 ?_
  refine vv_iload_n (pc := 1) X (kf := 0) (i := 0) rfl 0 rfl dJ15_checkLength_1 ?_
  refine vv_icmp_ge (pc := 2) (tgt := 37) X dJ15_checkLength_2 rfl ?_ ?_
  · exact vv_vreturn X rfl rfl dJ15_checkLength_37
  · exact vv_none
theorem m_J15_checkLength {l : Launch} (hl : l.stackTraces = false) {G : va_G} (a1 : Int) (a2 : Int) (h : HP) : ∀ r hf, f_J15_checkLength a1 a2 h = some (r, hf) → Ct l yJ15_checkLength (ws_ yJ15_checkLength cJ15_checkLength 2 none) 0 0 G h [.int (iI a1), .int (iI a2)] (jV r) hf :=
  zz_ofW hl (by decide +kernel) (lv := [(0, LI a1), (1, LI a2)]) (by simp [lv_args, lvL, lvV, zz_rfc, zz_rfs, zz_ci, zz_cr, zz_cj, zz_cf, zz_cd]) (by simp [lg_sl, zz_rfc, zz_ci, zz_cr, zz_cj, zz_cf, zz_cd]) (fun _ X => A_J15_checkLength X a1 a2 h)
-- J15_copyOfRangeByte java/util/Arrays.copyOfRangeByte([BII)[B
noncomputable def f_J15_copyOfRangeByte (a1 : Option Nat) (a2 : Int) (a3 : Int) (h : HP) : Option ((Option Nat) × HP) :=
  hb (f_J15_checkLength a2 a3 h) fun _ h2 =>
  hb (nwI h2 (tgR h2 a1) .byte (a3 - a2)) fun v3 h4 =>
  (alen h4 a1).bind fun v5 =>
  hb (f_J14_min (v5 - a2) (a3 - a2) h4) fun v6 h7 =>
  (acpI h7 .byte a1 a2 v3 0 v6).bind fun h8 =>
  some (v3, h8)
theorem A_J15_copyOfRangeByte {M : hp_M} {G : va_G} {h0 : HP} (X : hp_X M G h0 "java/util/Arrays" "copyOfRangeByte" cJ15_copyOfRangeByte 5 (some (.array .byte)) [] 1 100) (a1 : Option Nat) (a2 : Int) (a3 : Int) (h : HP) : vv M G h0 5 (hp_End M G h0) jR h 0 [(0, LR a1), (1, LI a2), (2, LI a3)] [] (f_J15_copyOfRangeByte a1 a2 a3 h) := by
  unfold f_J15_copyOfRangeByte
  refine vv_iload_n (pc := 0) X (kf := 1) (i := 1) rfl 1 rfl dJ15_copyOfRangeByte_0 ?_
  refine vv_iload_n (pc := 1) X (kf := 2) (i := 2) rfl 2 rfl dJ15_copyOfRangeByte_1 ?_
  refine vv_callV (pc := 2) (rest := []) (by rfl) (fun r8 k8 e8 => zz_callS X (m_J15_checkLength (hlM X) _ _ _ _ _ e8) q529 q530 q150 q531 nh_J15 rfl (by decide) (by decide) (Nat.le_of_ble_eq_true rfl) dJ15_copyOfRangeByte_2) (fun v1 h2 => ?_)
  refine vv_iload_n (pc := 5) X (kf := 2) (i := 2) rfl 2 rfl dJ15_copyOfRangeByte_5 ?_
  refine vv_iload_n (pc := 6) X (kf := 1) (i := 1) rfl 1 rfl dJ15_copyOfRangeByte_6 ?_
  refine vv_isub (pc := 7) X dJ15_copyOfRangeByte_7 ?_
  refine vv_istore_n (pc := 8) (lv' := [(3, LI (a3 - a2)), (0, LR a1), (1, LI a2), (2, LI a3)]) X (kf := 3) (i := 3) rfl (by decide) rfl dJ15_copyOfRangeByte_8 ?_
  refine vv_iload_n (pc := 9) X (kf := 3) (i := 3) rfl 0 rfl dJ15_copyOfRangeByte_9 ?_
  refine vv_newbyte (pc := 10) X dJ15_copyOfRangeByte_10 (fun v3 h4 => ?_)
  refine vv_astore (pc := 12) (lv' := [(4, LR v3), (3, LI (a3 - a2)), (0, LR a1), (1, LI a2), (2, LI a3)]) X (by decide) rfl dJ15_copyOfRangeByte_12 ?_
  refine vv_aload_n (pc := 14) X (kf := 0) (i := 0) rfl 2 rfl dJ15_copyOfRangeByte_14 ?_
  refine vv_iload_n (pc := 15) X (kf := 1) (i := 1) rfl 3 rfl dJ15_copyOfRangeByte_15 ?_
  refine vv_aload (pc := 16) X 0 rfl dJ15_copyOfRangeByte_16 ?_
  refine vv_iconst (pc := 18) X dJ15_copyOfRangeByte_18 ?_
  refine vv_aload_n (pc := 19) X (kf := 0) (i := 0) rfl 2 rfl dJ15_copyOfRangeByte_19 ?_
  refine vv_alen (pc := 20) X dJ15_copyOfRangeByte_20 (fun v5 => ?_)
  refine vv_iload_n (pc := 21) X (kf := 1) (i := 1) rfl 3 rfl dJ15_copyOfRangeByte_21 ?_
  refine vv_isub (pc := 22) X dJ15_copyOfRangeByte_22 ?_
  refine vv_iload_n (pc := 23) X (kf := 3) (i := 3) rfl 1 rfl dJ15_copyOfRangeByte_23 ?_
  refine vv_callI (pc := 24) (rest := [LI 0, LR v3, LI a2, LR a1]) (by rfl) (fun r8 k8 e8 => zz_callS X (m_J14_min (hlM X) _ _ _ _ _ e8) q391 q392 q149 q393 nh_J14 rfl (by decide) (by decide) (Nat.le_of_ble_eq_true rfl) dJ15_copyOfRangeByte_24) (fun v6 h7 => ?_)
  refine vv_arraycopy (pc := 27) X q394 q396 q395 q151 (by decide) (by decide) (Nat.le_of_ble_eq_true rfl) dJ15_copyOfRangeByte_27 (fun h8 => ?_)
  refine vv_aload (pc := 30) X 0 rfl dJ15_copyOfRangeByte_30 ?_
  exact vv_aretA X rfl rfl dJ15_copyOfRangeByte_32
theorem m_J15_copyOfRangeByte {l : Launch} (hl : l.stackTraces = false) {G : va_G} (a1 : Option Nat) (a2 : Int) (a3 : Int) (h : HP) : ∀ r hf, f_J15_copyOfRangeByte a1 a2 a3 h = some (r, hf) → Ct l yJ15_copyOfRangeByte (ws_ yJ15_copyOfRangeByte cJ15_copyOfRangeByte 5 (some (.array .byte))) 1 100 G h [va_rf a1, .int (iI a2), .int (iI a3)] (jR r) hf :=
  zz_ofW hl (by decide +kernel) (lv := [(0, LR a1), (1, LI a2), (2, LI a3)]) (by simp [lv_args, lvL, lvV, zz_rfc, zz_rfs, zz_ci, zz_cr, zz_cj, zz_cf, zz_cd]) (by simp [lg_sl, zz_rfc, zz_ci, zz_cr, zz_cj, zz_cf, zz_cd]) (fun _ X => A_J15_copyOfRangeByte X a1 a2 a3 h)
-- J15_copyOfRange java/util/Arrays.copyOfRange([BII)[B
noncomputable def b_J15_copyOfRange_10 (x0 : Option Nat) (x1 : Int) (x2 : Int) (h : HP) : Option ((Option Nat) × HP) :=
  hb (f_J15_copyOfRangeByte x0 x1 x2 h) fun v1 h2 =>
  some (v1, h2)
theorem B_J15_copyOfRange_10 {M : hp_M} {G : va_G} {h0 : HP} (X : hp_X M G h0 "java/util/Arrays" "copyOfRange" cJ15_copyOfRange 3 (some (.array .byte)) [] 2 132) (x0 : Option Nat) (x1 : Int) (x2 : Int) (h : HP) : vv M G h0 3 (hp_End M G h0) jR h 10 [(0, LR x0), (1, LI x1), (2, LI x2)] [] (b_J15_copyOfRange_10 x0 x1 x2 h) := by
  unfold b_J15_copyOfRange_10
  refine vv_aload_n (pc := 10) X (kf := 0) (i := 0) rfl 0 rfl dJ15_copyOfRange_10 ?_
  refine vv_iload_n (pc := 11) X (kf := 1) (i := 1) rfl 1 rfl dJ15_copyOfRange_11 ?_
  refine vv_iload_n (pc := 12) X (kf := 2) (i := 2) rfl 2 rfl dJ15_copyOfRange_12 ?_
  refine vv_callR (pc := 13) (rest := []) (by rfl) (fun r8 k8 e8 => zz_callS X (m_J15_copyOfRangeByte (hlM X) _ _ _ _ _ _ e8) q526 q527 q150 q528 nh_J15 rfl (by decide) (by decide) (Nat.le_of_ble_eq_true rfl) dJ15_copyOfRange_13) (fun v1 h2 => ?_)
  exact vv_aretA X rfl rfl dJ15_copyOfRange_16
noncomputable def f_J15_copyOfRange (a1 : Option Nat) (a2 : Int) (a3 : Int) (h : HP) : Option ((Option Nat) × HP) :=
  iEQ a2 0
    ((alen h a1).bind fun v3 =>
    iEQ a3 v3
      (hb (clB h a1) fun v4 h5 =>
      (chkA h5 v4 .byte).bind fun _ =>
      some (v4, h5))
      (b_J15_copyOfRange_10 a1 a2 a3 h))
    (b_J15_copyOfRange_10 a1 a2 a3 h)
theorem A_J15_copyOfRange {M : hp_M} {G : va_G} {h0 : HP} (X : hp_X M G h0 "java/util/Arrays" "copyOfRange" cJ15_copyOfRange 3 (some (.array .byte)) [] 2 132) (a1 : Option Nat) (a2 : Int) (a3 : Int) (h : HP) : vv M G h0 3 (hp_End M G h0) jR h 0 [(0, LR a1), (1, LI a2), (2, LI a3)] [] (f_J15_copyOfRange a1 a2 a3 h) := by
  unfold f_J15_copyOfRange
  refine vv_iload_n (pc := 0) X (kf := 1) (i := 1) rfl 1 rfl dJ15_copyOfRange_0 ?_
  refine vv_if_ne (pc := 1) (tgt := 10) X dJ15_copyOfRange_1 rfl ?_ ?_
  · exact B_J15_copyOfRange_10 X _ _ _ _
  · refine vv_iload_n (pc := 4) X (kf := 2) (i := 2) rfl 2 rfl dJ15_copyOfRange_4 ?_
    refine vv_aload_n (pc := 5) X (kf := 0) (i := 0) rfl 0 rfl dJ15_copyOfRange_5 ?_
    refine vv_alen (pc := 6) X dJ15_copyOfRange_6 (fun v3 => ?_)
    refine vv_icmp_eq (pc := 7) (tgt := 17) X dJ15_copyOfRange_7 rfl ?_ ?_
    · refine vv_aload_n (pc := 17) X (kf := 0) (i := 0) rfl 0 rfl dJ15_copyOfRange_17 ?_
      refine vv_cloneB (pc := 18) X q384 (by decide) (by decide) (Nat.le_of_ble_eq_true rfl) dJ15_copyOfRange_18 (fun v4 h5 => ?_)
      refine vv_checkcastB (pc := 21) X q390 dJ15_copyOfRange_21 ?_
      exact vv_aretA X rfl rfl dJ15_copyOfRange_24
    · exact B_J15_copyOfRange_10 X _ _ _ _
theorem m_J15_copyOfRange {l : Launch} (hl : l.stackTraces = false) {G : va_G} (a1 : Option Nat) (a2 : Int) (a3 : Int) (h : HP) : ∀ r hf, f_J15_copyOfRange a1 a2 a3 h = some (r, hf) → Ct l yJ15_copyOfRange (ws_ yJ15_copyOfRange cJ15_copyOfRange 3 (some (.array .byte))) 2 132 G h [va_rf a1, .int (iI a2), .int (iI a3)] (jR r) hf :=
  zz_ofW hl (by decide +kernel) (lv := [(0, LR a1), (1, LI a2), (2, LI a3)]) (by simp [lv_args, lvL, lvV, zz_rfc, zz_rfs, zz_ci, zz_cr, zz_cj, zz_cf, zz_cd]) (by simp [lg_sl, zz_rfc, zz_ci, zz_cr, zz_cj, zz_cf, zz_cd]) (fun _ X => A_J15_copyOfRange X a1 a2 a3 h)
-- J11_init_2 java/lang/String.<init>(Ljava/lang/AbstractStringBuilder;Ljava/lang/Void;)V
noncomputable def b_J11_init_2_97 (h : HP) : Option ((Unit) × HP) :=
  some ((), h)
theorem B_J11_init_2_97 {M : hp_M} {G : va_G} {h0 : HP} (X : hp_X M G h0 "java/lang/String" "<init>" cJ11_init_2 5 none [] 3 162) (h : HP) : vv M G h0 5 (hp_End M G h0) jV h 97 [] [] (b_J11_init_2_97 h) := by
  unfold b_J11_init_2_97
  exact vv_vreturn X rfl rfl dJ11_init_2_97
noncomputable def b_J11_init_2_79 (x0 : Option Nat) (x3 : Option Nat) (x4 : Int) (h : HP) : Option ((Unit) × HP) :=
  (wrB h x0 [26] 1 1).bind fun h13 =>
  hb (f_J15_copyOfRange x3 0 (iShl x4 1) h13) fun v14 h15 =>
  (wrR h15 x0 [26] 0 v14).bind fun h16 =>
  b_J11_init_2_97 h16
theorem B_J11_init_2_79 {M : hp_M} {G : va_G} {h0 : HP} (X : hp_X M G h0 "java/lang/String" "<init>" cJ11_init_2 5 none [] 3 162) (x0 : Option Nat) (x3 : Option Nat) (x4 : Int) (h : HP) : vv M G h0 5 (hp_End M G h0) jV h 79 [(0, LR x0), (3, LR x3), (4, LI x4)] [] (b_J11_init_2_79 x0 x3 x4 h) := by
  unfold b_J11_init_2_79
  refine vv_aload_n (pc := 79) X (kf := 0) (i := 0) rfl 0 rfl dJ11_init_2_79 ?_
  refine vv_iconst (pc := 80) X dJ11_init_2_80 ?_
  refine vv_putB (pc := 81) (fin := true) X (fun _ z => by cases List.mem_singleton.mp z; exact fl_J11_15_26) (fun _ => rfl) (fun _ => (fun _ z => by cases List.mem_singleton.mp z; exact ⟨_, rfl, rfl⟩)) dJ11_init_2_81 (fun h13 => ?_)
  refine vv_aload_n (pc := 84) X (kf := 0) (i := 0) rfl 0 rfl dJ11_init_2_84 ?_
  refine vv_aload_n (pc := 85) X (kf := 3) (i := 3) rfl 1 rfl dJ11_init_2_85 ?_
  refine vv_iconst (pc := 86) X dJ11_init_2_86 ?_
  refine vv_iload (pc := 87) X 2 rfl dJ11_init_2_87 ?_
  refine vv_iconst (pc := 89) X dJ11_init_2_89 ?_
  refine vv_ishl (pc := 90) X dJ11_init_2_90 ?_
  refine vv_callR (pc := 91) (rest := [LR x0]) (by rfl) (fun r8 k8 e8 => zz_callS X (m_J15_copyOfRange (hlM X) _ _ _ _ _ _ e8) q523 q524 q150 q525 nh_J15 rfl (by decide) (by decide) (Nat.le_of_ble_eq_true rfl) dJ11_init_2_91) (fun v14 h15 => ?_)
  refine vv_putR (pc := 94) (ty9 := (.array .byte)) (fin := true) X (fun _ z => by cases List.mem_singleton.mp z; exact fl_J11_9_26) (fun _ => rfl) (fun _ => (fun _ z => by cases List.mem_singleton.mp z; exact ⟨_, rfl, rfl⟩)) (by decide +kernel) rfl dJ11_init_2_94 (fun h16 => ?_)
  exact vv_sub [] (by rfl) (B_J11_init_2_97 X _)
noncomputable def f_J11_init_2 (a0 : Nat) (a1 : Option Nat) (a2 : Option Nat) (h : HP) : Option ((Unit) × HP) :=
  (rcv h a1 [25]).bind fun b3 =>
  hb (f_J9_getValue b3 h) fun v1 h2 =>
  (rcv h2 a1 [25]).bind fun b7 =>
  hb (f_J10_length b7 h2) fun v5 h6 =>
  (rcv h6 a1 [25]).bind fun b11 =>
  hb (f_J9_isLatin1 b11 h6) fun v9 h10 =>
  iEQ v9 0
    (iEQ 1 0
      (b_J11_init_2_79 (some a0) v1 v5 h10)
      ((rdI h10 a1 [25] 2).bind fun v17 =>
      iEQ v17 0
        (b_J11_init_2_79 (some a0) v1 v5 h10)
        (none)))
    ((wrB h10 (some a0) [26] 1 0).bind fun h18 =>
    hb (f_J15_copyOfRange v1 0 v5 h18) fun v19 h20 =>
    (wrR h20 (some a0) [26] 0 v19).bind fun h21 =>
    b_J11_init_2_97 h21)
theorem A_J11_init_2 {M : hp_M} {G : va_G} {h0 : HP} (X : hp_X M G h0 "java/lang/String" "<init>" cJ11_init_2 5 none [] 3 162) (a0 : Nat) (a1 : Option Nat) (a2 : Option Nat) (h : HP) : vv M G h0 5 (hp_End M G h0) jV h 0 [(0, LR (some a0)), (1, LR a1), (2, LR a2)] [] (f_J11_init_2 a0 a1 a2 h) := by
  unfold f_J11_init_2
  refine vv_aload_n (pc := 0) X (kf := 0) (i := 0) rfl 0 rfl dJ11_init_2_0 ?_
  refine vv_objInit (pc := 1) X rfl q508 q212 q213 (by decide) (by decide) (Nat.le_of_ble_eq_true rfl) dJ11_init_2_1 ?_
  refine vv_aload_n (pc := 4) X (kf := 1) (i := 1) rfl 1 rfl dJ11_init_2_4 ?_
  refine vv_rcv (fun b3 t9 c9 fs9 e4 g9 k9 => ?_)
  cases List.mem_singleton.mp k9
  refine vv_callR (pc := 5) (rest := []) (by rw [e4]; rfl) (fun r8 k8 e8 => zz_callW X (m_J9_getValue (hlM X) _ _ _ _ e8) g9 rfl q509 q510 q512 q144 q513 nh_J9 rfl (by decide) (by decide) (Nat.le_of_ble_eq_true rfl) dJ11_init_2_5) (fun v1 h2 => ?_)
  refine vv_astore_n (pc := 8) (lv' := [(3, LR v1), (0, LR (some a0)), (1, LR a1), (2, LR a2)]) X (kf := 3) (i := 3) rfl (by decide) rfl dJ11_init_2_8 ?_
  refine vv_aload_n (pc := 9) X (kf := 1) (i := 1) rfl 2 rfl dJ11_init_2_9 ?_
  refine vv_rcv (fun b7 t9 c9 fs9 e8 g9 k9 => ?_)
  cases List.mem_singleton.mp k9
  refine vv_callI (pc := 10) (rest := []) (by rw [e8]; rfl) (fun r8 k8 e8 => zz_callU X (m_J10_length (hlM X) _ _ _ _ e8) g9 rfl q514 q516 (va_Decl.of (X.1.2.2.2.2 _ q515) (X.1.2.2.2.2 _ q521)) (by decide) q518 q517 q145 q519 rfl (by decide) (by decide) (Nat.le_of_ble_eq_true rfl) dJ11_init_2_10) (fun v5 h6 => ?_)
  refine vv_istore (pc := 13) (lv' := [(4, LI v5), (3, LR v1), (0, LR (some a0)), (1, LR a1), (2, LR a2)]) X (by decide) rfl dJ11_init_2_13 ?_
  refine vv_aload_n (pc := 15) X (kf := 1) (i := 1) rfl 3 rfl dJ11_init_2_15 ?_
  refine vv_rcv (fun b11 t9 c9 fs9 e12 g9 k9 => ?_)
  cases List.mem_singleton.mp k9
  refine vv_callI (pc := 16) (rest := []) (by rw [e12]; rfl) (fun r8 k8 e8 => zz_callW X (m_J9_isLatin1 (hlM X) _ _ _ _ e8) g9 rfl q522 q398 q400 q144 q401 nh_J9 rfl (by decide) (by decide) (Nat.le_of_ble_eq_true rfl) dJ11_init_2_16) (fun v9 h10 => ?_)
  refine vv_if_eq (pc := 19) (tgt := 41) X dJ11_init_2_19 rfl ?_ ?_
  · refine vv_gets (pc := 41) (w := LI 1) X (gs_0 _) rfl q436 dJ11_init_2_41 ?_
    refine vv_if_eq (pc := 44) (tgt := 79) X dJ11_init_2_44 rfl ?_ ?_
    · exact vv_sub [2, 1, 0] (by rfl) (B_J11_init_2_79 X _ _ _ _)
    · refine vv_aload_n (pc := 47) X (kf := 1) (i := 1) rfl 3 rfl dJ11_init_2_47 ?_
      refine vv_getI (pc := 48) X (fun _ z => by cases List.mem_singleton.mp z; exact fl_J11_1048_25) dJ11_init_2_48 (fun v17 => ?_)
      refine vv_if_eq (pc := 51) (tgt := 79) X dJ11_init_2_51 rfl ?_ ?_
      · exact vv_sub [2, 1, 0] (by rfl) (B_J11_init_2_79 X _ _ _ _)
      · refine vv_aload_n (pc := 54) X (kf := 0) (i := 0) rfl 2 rfl dJ11_init_2_54 ?_
        refine vv_aload_n (pc := 55) X (kf := 3) (i := 3) rfl 1 rfl dJ11_init_2_55 ?_
        refine vv_iconst (pc := 56) X dJ11_init_2_56 ?_
        refine vv_iload (pc := 57) X 0 rfl dJ11_init_2_57 ?_
        exact vv_none
  · refine vv_aload_n (pc := 22) X (kf := 0) (i := 0) rfl 2 rfl dJ11_init_2_22 ?_
    refine vv_iconst (pc := 23) X dJ11_init_2_23 ?_
    refine vv_putB (pc := 24) (fin := true) X (fun _ z => by cases List.mem_singleton.mp z; exact fl_J11_15_26) (fun _ => rfl) (fun _ => (fun _ z => by cases List.mem_singleton.mp z; exact ⟨_, rfl, rfl⟩)) dJ11_init_2_24 (fun h18 => ?_)
    refine vv_aload_n (pc := 27) X (kf := 0) (i := 0) rfl 2 rfl dJ11_init_2_27 ?_
    refine vv_aload_n (pc := 28) X (kf := 3) (i := 3) rfl 1 rfl dJ11_init_2_28 ?_
    refine vv_iconst (pc := 29) X dJ11_init_2_29 ?_
    refine vv_iload (pc := 30) X 0 rfl dJ11_init_2_30 ?_
    refine vv_callR (pc := 32) (rest := [LR (some a0)]) (by rfl) (fun r8 k8 e8 => zz_callS X (m_J15_copyOfRange (hlM X) _ _ _ _ _ _ e8) q523 q524 q150 q525 nh_J15 rfl (by decide) (by decide) (Nat.le_of_ble_eq_true rfl) dJ11_init_2_32) (fun v19 h20 => ?_)
    refine vv_putR (pc := 35) (ty9 := (.array .byte)) (fin := true) X (fun _ z => by cases List.mem_singleton.mp z; exact fl_J11_9_26) (fun _ => rfl) (fun _ => (fun _ z => by cases List.mem_singleton.mp z; exact ⟨_, rfl, rfl⟩)) (by decide +kernel) rfl dJ11_init_2_35 (fun h21 => ?_)
    refine vv_goto (pc := 38) (tgt := 97) X dJ11_init_2_38 rfl ?_
    exact vv_sub [] (by rfl) (B_J11_init_2_97 X _)
theorem m_J11_init_2 {l : Launch} (hl : l.stackTraces = false) {G : va_G} (a0 : Nat) (a1 : Option Nat) (a2 : Option Nat) (h : HP) : ∀ r hf, f_J11_init_2 a0 a1 a2 h = some (r, hf) → Ct l yJ11_init_2 (ws_ yJ11_init_2 cJ11_init_2 5 none) 3 162 G h [.ref a0, va_rf a1, va_rf a2] (jV r) hf :=
  zz_ofW hl (by decide +kernel) (lv := [(0, LR (some a0)), (1, LR a1), (2, LR a2)]) (by simp [lv_args, lvL, lvV, zz_rfc, zz_rfs, zz_ci, zz_cr, zz_cj, zz_cf, zz_cd]) (by simp [lg_sl, zz_rfc, zz_ci, zz_cr, zz_cj, zz_cf, zz_cd]) (fun _ X => A_J11_init_2 X a0 a1 a2 h)
-- J11_init java/lang/String.<init>(Ljava/lang/StringBuilder;)V
noncomputable def f_J11_init (a0 : Nat) (a1 : Option Nat) (h : HP) : Option ((Unit) × HP) :=
  hb (f_J11_init_2 a0 a1 none h) fun _ h2 =>
  some ((), h2)
theorem A_J11_init {M : hp_M} {G : va_G} {h0 : HP} (X : hp_X M G h0 "java/lang/String" "<init>" cJ11_init 2 none [] 4 194) (a0 : Nat) (a1 : Option Nat) (h : HP) : vv M G h0 2 (hp_End M G h0) jV h 0 [(0, LR (some a0)), (1, LR a1)] [] (f_J11_init a0 a1 h) := by
  unfold f_J11_init
  refine vv_aload_n (pc := 0) X (kf := 0) (i := 0) rfl 0 rfl dJ11_init_0 ?_
  refine vv_aload_n (pc := 1) X (kf := 1) (i := 1) rfl 1 rfl dJ11_init_1 ?_
  refine vv_null (pc := 2) X dJ11_init_2 ?_
  refine vv_callV (pc := 3) (rest := []) (by rfl) (fun r8 k8 e8 => zz_callI X (m_J11_init_2 (hlM X) _ _ _ _ _ _ e8) q505 q506 q146 q507 rfl nh_J11 rfl (by decide) (by decide) (Nat.le_of_ble_eq_true rfl) dJ11_init_3) (fun v1 h2 => ?_)
  exact vv_vreturn X rfl rfl dJ11_init_6
theorem m_J11_init {l : Launch} (hl : l.stackTraces = false) {G : va_G} (a0 : Nat) (a1 : Option Nat) (h : HP) : ∀ r hf, f_J11_init a0 a1 h = some (r, hf) → Ct l yJ11_init (ws_ yJ11_init cJ11_init 2 none) 4 194 G h [.ref a0, va_rf a1] (jV r) hf :=
  zz_ofW hl (by decide +kernel) (lv := [(0, LR (some a0)), (1, LR a1)]) (by simp [lv_args, lvL, lvV, zz_rfc, zz_rfs, zz_ci, zz_cr, zz_cj, zz_cf, zz_cd]) (by simp [lg_sl, zz_rfc, zz_ci, zz_cr, zz_cj, zz_cf, zz_cd]) (fun _ X => A_J11_init X a0 a1 h)
-- J10_toString java/lang/StringBuilder.toString()Ljava/lang/String;
noncomputable def f_J10_toString (a0 : Nat) (h : HP) : Option ((Option Nat) × HP) :=
  hb (nwO h 0 26 [.inr (.inl none), .inl 0, .inl 0, .inl 0] 4) fun v1 h2 =>
  (v1).bind fun b5 =>
  hb (f_J11_init b5 (some a0) h2) fun _ h4 =>
  some (v1, h4)
theorem A_J10_toString {M : hp_M} {G : va_G} {h0 : HP} (X : hp_X M G h0 "java/lang/StringBuilder" "toString" cJ10_toString 1 (some (.object "java/lang/String")) [] 5 223) (a0 : Nat) (h : HP) : vv M G h0 1 (hp_End M G h0) jR h 0 [(0, LR (some a0))] [] (f_J10_toString a0 h) := by
  unfold f_J10_toString
  refine vv_new (pc := 0) X tyJ11 rfl in_J11 tyJ11_ok q500 q501 q146 ndJ11 (by decide) dJ10_toString_0 (fun v1 h2 => ?_)
  refine vv_dup (pc := 3) X rfl dJ10_toString_3 ?_
  refine vv_aload_n (pc := 4) X (kf := 0) (i := 0) rfl 0 rfl dJ10_toString_4 ?_
  refine vv_bnd (fun b5 e6 => ?_)
  refine vv_callV (pc := 5) (rest := [LR v1]) (by rw [e6]; rfl) (fun r8 k8 e8 => zz_callI X (m_J11_init (hlM X) _ _ _ _ _ e8) q502 q503 q146 q504 rfl nh_J11 rfl (by decide) (by decide) (Nat.le_of_ble_eq_true rfl) dJ10_toString_5) (fun v3 h4 => ?_)
  exact vv_aretO X rfl rfl dJ10_toString_8
theorem m_J10_toString {l : Launch} (hl : l.stackTraces = false) {G : va_G} (a0 : Nat) (h : HP) : ∀ r hf, f_J10_toString a0 h = some (r, hf) → Ct l yJ10_toString (ws_ yJ10_toString cJ10_toString 1 (some (.object "java/lang/String"))) 5 223 G h [.ref a0] (jR r) hf :=
  zz_ofW hl (by decide +kernel) (lv := [(0, LR (some a0))]) (by simp [lv_args, lvL, lvV, zz_rfc, zz_rfs, zz_ci, zz_cr, zz_cj, zz_cf, zz_cd]) (by simp [lg_sl, zz_rfc, zz_ci, zz_cr, zz_cj, zz_cf, zz_cd]) (fun _ X => A_J10_toString X a0 h)
