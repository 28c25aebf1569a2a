/-! STAGE 1c: functions and contracts (printed by gen/mkfuncs.py). -/
set_option maxRecDepth 100000
set_option linter.unusedVariables false
-- J0_init java/util/AbstractMap.<init>()V
noncomputable def f_J0_init (a0 : Nat) (h : HP) : Option ((Unit) × HP) :=
  some ((), h)
theorem A_J0_init {M : hp_M} {G : va_G} {h0 : HP} (X : hp_X M G h0 "java/util/AbstractMap" "<init>" cJ0_init 1 none [] 1 28) (a0 : Nat) (h : HP) : vv M G h0 1 (hp_End M G h0) jV h 0 [(0, LR (some a0))] [] (f_J0_init a0 h) := by
  unfold f_J0_init
  refine vv_aload_n (pc := 0) X (kf := 0) (i := 0) rfl 0 rfl dJ0_init_0 ?_
  refine vv_objInit (pc := 1) X rfl q233 q212 q213 (by decide) (by decide) (Nat.le_of_ble_eq_true rfl) dJ0_init_1 ?_
  exact vv_vreturn X rfl rfl dJ0_init_4
theorem m_J0_init {l : Launch} (hl : l.stackTraces = false) {G : va_G} (a0 : Nat) (h : HP) : ∀ r hf, f_J0_init a0 h = some (r, hf) → Ct l yJ0_init (ws_ yJ0_init cJ0_init 1 none) 1 28 G h [.ref a0] (jV r) hf :=
  zz_ofW hl (by decide +kernel) (lv := [(0, LR (some a0))]) (by simp [lv_args, lvL, lvV, zz_rfc, zz_rfs, zz_ci, zz_cr, zz_cj, zz_cf, zz_cd]) (by simp [lg_sl, zz_rfc, zz_ci, zz_cr, zz_cj, zz_cf, zz_cd]) (fun _ X => A_J0_init X a0 h)
-- J1_init java/util/HashMap.<init>()V
noncomputable def f_J1_init (a0 : Nat) (h : HP) : Option ((Unit) × HP) :=
  hb (f_J0_init a0 h) fun _ h2 =>
  (wrF h2 (some a0) [23] 7 (1061158912 : UInt32)).bind fun h3 =>
  some ((), h3)
theorem A_J1_init {M : hp_M} {G : va_G} {h0 : HP} (X : hp_X M G h0 "java/util/HashMap" "<init>" cJ1_init 1 none [] 2 56) (a0 : Nat) (h : HP) : vv M G h0 1 (hp_End M G h0) jV h 0 [(0, LR (some a0))] [] (f_J1_init a0 h) := by
  unfold f_J1_init
  refine vv_aload_n (pc := 0) X (kf := 0) (i := 0) rfl 0 rfl dJ1_init_0 ?_
  refine vv_callV (pc := 1) (rest := []) (by rfl) (fun r8 k8 e8 => zz_callI X (m_J0_init (hlM X) _ _ _ _ e8) q230 q231 q135 q232 rfl nh_J0 rfl (by decide) (by decide) (Nat.le_of_ble_eq_true rfl) dJ1_init_1) (fun v1 h2 => ?_)
  refine vv_aload_n (pc := 4) X (kf := 0) (i := 0) rfl 0 rfl dJ1_init_4 ?_
  refine vv_ldcF (pc := 5) X q234 dJ1_init_5 ?_
  refine vv_putF (pc := 7) (fin := true) X (fun _ z => by cases List.mem_singleton.mp z; exact fl_J1_81_23) (fun _ => rfl) (fun _ => (fun _ z => by cases List.mem_singleton.mp z; exact ⟨_, rfl, rfl⟩)) dJ1_init_7 (fun h3 => ?_)
  exact vv_vreturn X rfl rfl dJ1_init_10
theorem m_J1_init {l : Launch} (hl : l.stackTraces = false) {G : va_G} (a0 : Nat) (h : HP) : ∀ r hf, f_J1_init a0 h = some (r, hf) → Ct l yJ1_init (ws_ yJ1_init cJ1_init 1 none) 2 56 G h [.ref a0] (jV r) hf :=
  zz_ofW hl (by decide +kernel) (lv := [(0, LR (some a0))]) (by simp [lv_args, lvL, lvV, zz_rfc, zz_rfs, zz_ci, zz_cr, zz_cj, zz_cf, zz_cd]) (by simp [lg_sl, zz_rfc, zz_ci, zz_cr, zz_cj, zz_cf, zz_cd]) (fun _ X => A_J1_init X a0 h)
-- J2_init java/util/AbstractCollection.<init>()V
noncomputable def f_J2_init (a0 : Nat) (h : HP) : Option ((Unit) × HP) :=
  some ((), h)
theorem A_J2_init {M : hp_M} {G : va_G} {h0 : HP} (X : hp_X M G h0 "java/util/AbstractCollection" "<init>" cJ2_init 1 none [] 1 28) (a0 : Nat) (h : HP) : vv M G h0 1 (hp_End M G h0) jV h 0 [(0, LR (some a0))] [] (f_J2_init a0 h) := by
  unfold f_J2_init
  refine vv_aload_n (pc := 0) X (kf := 0) (i := 0) rfl 0 rfl dJ2_init_0 ?_
  refine vv_objInit (pc := 1) X rfl q268 q212 q213 (by decide) (by decide) (Nat.le_of_ble_eq_true rfl) dJ2_init_1 ?_
  exact vv_vreturn X rfl rfl dJ2_init_4
theorem m_J2_init {l : Launch} (hl : l.stackTraces = false) {G : va_G} (a0 : Nat) (h : HP) : ∀ r hf, f_J2_init a0 h = some (r, hf) → Ct l yJ2_init (ws_ yJ2_init cJ2_init 1 none) 1 28 G h [.ref a0] (jV r) hf :=
  zz_ofW hl (by decide +kernel) (lv := [(0, LR (some a0))]) (by simp [lv_args, lvL, lvV, zz_rfc, zz_rfs, zz_ci, zz_cr, zz_cj, zz_cf, zz_cd]) (by simp [lg_sl, zz_rfc, zz_ci, zz_cr, zz_cj, zz_cf, zz_cd]) (fun _ X => A_J2_init X a0 h)
-- J3_init java/util/AbstractList.<init>()V
noncomputable def f_J3_init (a0 : Nat) (h : HP) : Option ((Unit) × HP) :=
  hb (f_J2_init a0 h) fun _ h2 =>
  (wrI h2 (some a0) [24, 28] 0 0).bind fun h3 =>
  some ((), h3)
theorem A_J3_init {M : hp_M} {G : va_G} {h0 : HP} (X : hp_X M G h0 "java/util/AbstractList" "<init>" cJ3_init 1 none [] 2 56) (a0 : Nat) (h : HP) : vv M G h0 1 (hp_End M G h0) jV h 0 [(0, LR (some a0))] [] (f_J3_init a0 h) := by
  unfold f_J3_init
  refine vv_aload_n (pc := 0) X (kf := 0) (i := 0) rfl 0 rfl dJ3_init_0 ?_
  refine vv_callV (pc := 1) (rest := []) (by rfl) (fun r8 k8 e8 => zz_callI X (m_J2_init (hlM X) _ _ _ _ e8) q265 q266 q137 q267 rfl nh_J2 rfl (by decide) (by decide) (Nat.le_of_ble_eq_true rfl) dJ3_init_1) (fun v1 h2 => ?_)
  refine vv_aload_n (pc := 4) X (kf := 0) (i := 0) rfl 0 rfl dJ3_init_4 ?_
  refine vv_iconst (pc := 5) X dJ3_init_5 ?_
  refine vv_putI (pc := 6) (fin := false) X (fun _ z => by rcases List.mem_cons.mp z with rfl | z; exact fl_J3_7_24; cases List.mem_singleton.mp z; exact fl_J3_7_28) (fun z => nomatch z) (fun z => nomatch z) dJ3_init_6 (fun h3 => ?_)
  exact vv_vreturn X rfl rfl dJ3_init_9
theorem m_J3_init {l : Launch} (hl : l.stackTraces = false) {G : va_G} (a0 : Nat) (h : HP) : ∀ r hf, f_J3_init a0 h = some (r, hf) → Ct l yJ3_init (ws_ yJ3_init cJ3_init 1 none) 2 56 G h [.ref a0] (jV r) hf :=
  zz_ofW hl (by decide +kernel) (lv := [(0, LR (some a0))]) (by simp [lv_args, lvL, lvV, zz_rfc, zz_rfs, zz_ci, zz_cr, zz_cj, zz_cf, zz_cd]) (by simp [lg_sl, zz_rfc, zz_ci, zz_cr, zz_cj, zz_cf, zz_cd]) (fun _ X => A_J3_init X a0 h)
-- J9_init java/lang/AbstractStringBuilder.<init>(I)V
noncomputable def f_J9_init (a0 : Nat) (a1 : Int) (h : HP) : Option ((Unit) × HP) :=
  iEQ 1 0
    (none)
    (hb (nwI h (tgR h (some a0)) .byte a1) fun v1 h2 =>
    (wrR h2 (some a0) [25] 0 v1).bind fun h3 =>
    (wrB h3 (some a0) [25] 1 0).bind fun h4 =>
    some ((), h4))
theorem A_J9_init {M : hp_M} {G : va_G} {h0 : HP} (X : hp_X M G h0 "java/lang/AbstractStringBuilder" "<init>" cJ9_init 2 none [] 1 28) (a0 : Nat) (a1 : Int) (h : HP) : vv M G h0 2 (hp_End M G h0) jV h 0 [(0, LR (some a0)), (1, LI a1)] [] (f_J9_init a0 a1 h) := by
  unfold f_J9_init
  refine vv_aload_n (pc := 0) X (kf := 0) (i := 0) rfl 0 rfl dJ9_init_0 ?_
  refine vv_objInit (pc := 1) X rfl q326 q212 q213 (by decide) (by decide) (Nat.le_of_ble_eq_true rfl) dJ9_init_1 ?_
  refine vv_gets (pc := 4) (w := LI 1) X (gs_0 _) rfl q327 dJ9_init_4 ?_
  refine vv_if_eq (pc := 7) (tgt := 25) X dJ9_init_7 rfl ?_ ?_
  · refine vv_aload_n (pc := 25) X (kf := 0) (i := 0) rfl 0 rfl dJ9_init_25 ?_
    refine vv_iload_n (pc := 26) X (kf := 1) (i := 1) rfl 1 rfl dJ9_init_26 ?_
    exact vv_none
  · refine vv_aload_n (pc := 10) X (kf := 0) (i := 0) rfl 0 rfl dJ9_init_10 ?_
    refine vv_iload_n (pc := 11) X (kf := 1) (i := 1) rfl 1 rfl dJ9_init_11 ?_
    refine vv_newbyte (pc := 12) X dJ9_init_12 (fun v1 h2 => ?_)
    refine vv_putR (pc := 14) (ty9 := (.array .byte)) (fin := false) X (fun _ z => by cases List.mem_singleton.mp z; exact fl_J9_15_25) (fun z => nomatch z) (fun z => nomatch z) (by decide +kernel) rfl dJ9_init_14 (fun h3 => ?_)
    refine vv_aload_n (pc := 17) X (kf := 0) (i := 0) rfl 0 rfl dJ9_init_17 ?_
    refine vv_iconst (pc := 18) X dJ9_init_18 ?_
    refine vv_putB (pc := 19) (fin := false) X (fun _ z => by cases List.mem_singleton.mp z; exact fl_J9_22_25) (fun z => nomatch z) (fun z => nomatch z) dJ9_init_19 (fun h4 => ?_)
    refine vv_goto (pc := 22) (tgt := 38) X dJ9_init_22 rfl ?_
    exact vv_vreturn X rfl rfl dJ9_init_38
theorem m_J9_init {l : Launch} (hl : l.stackTraces = false) {G : va_G} (a0 : Nat) (a1 : Int) (h : HP) : ∀ r hf, f_J9_init a0 a1 h = some (r, hf) → Ct l yJ9_init (ws_ yJ9_init cJ9_init 2 none) 1 28 G h [.ref a0, .int (iI a1)] (jV r) hf :=
  zz_ofW hl (by decide +kernel) (lv := [(0, LR (some a0)), (1, LI a1)]) (by simp [lv_args, lvL, lvV, zz_rfc, zz_rfs, zz_ci, zz_cr, zz_cj, zz_cf, zz_cd]) (by simp [lg_sl, zz_rfc, zz_ci, zz_cr, zz_cj, zz_cf, zz_cd]) (fun _ X => A_J9_init X a0 a1 h)
-- J10_init java/lang/StringBuilder.<init>()V
noncomputable def f_J10_init (a0 : Nat) (h : HP) : Option ((Unit) × HP) :=
  hb (f_J9_init a0 16 h) fun _ h2 =>
  some ((), h2)
theorem A_J10_init {M : hp_M} {G : va_G} {h0 : HP} (X : hp_X M G h0 "java/lang/StringBuilder" "<init>" cJ10_init 1 none [] 2 57) (a0 : Nat) (h : HP) : vv M G h0 1 (hp_End M G h0) jV h 0 [(0, LR (some a0))] [] (f_J10_init a0 h) := by
  unfold f_J10_init
  refine vv_aload_n (pc := 0) X (kf := 0) (i := 0) rfl 0 rfl dJ10_init_0 ?_
  refine vv_bipush (pc := 1) X (by decide) dJ10_init_1 ?_
  refine vv_callV (pc := 3) (rest := []) (by rfl) (fun r8 k8 e8 => zz_callI X (m_J9_init (hlM X) _ _ _ _ _ e8) q323 q324 q144 q325 rfl nh_J9 rfl (by decide) (by decide) (Nat.le_of_ble_eq_true rfl) dJ10_init_3) (fun v1 h2 => ?_)
  exact vv_vreturn X rfl rfl dJ10_init_6
theorem m_J10_init {l : Launch} (hl : l.stackTraces = false) {G : va_G} (a0 : Nat) (h : HP) : ∀ r hf, f_J10_init a0 h = some (r, hf) → Ct l yJ10_init (ws_ yJ10_init cJ10_init 1 none) 2 57 G h [.ref a0] (jV r) hf :=
  zz_ofW hl (by decide +kernel) (lv := [(0, LR (some a0))]) (by simp [lv_args, lvL, lvV, zz_rfc, zz_rfs, zz_ci, zz_cr, zz_cj, zz_cf, zz_cd]) (by simp [lg_sl, zz_rfc, zz_ci, zz_cr, zz_cj, zz_cf, zz_cd]) (fun _ X => A_J10_init X a0 h)
-- J11_coder java/lang/String.coder()B
noncomputable def b_J11_coder_14 (s0 : Int) (h : HP) : Option ((Int) × HP) :=
  rtB s0 (some (s0, h))
theorem B_J11_coder_14 {M : hp_M} {G : va_G} {h0 : HP} (X : hp_X M G h0 "java/lang/String" "coder" cJ11_coder 1 (some .byte) [] 0 0) (s0 : Int) (h : HP) : vv M G h0 1 (hp_End M G h0) jI h 14 [] [LI s0] (b_J11_coder_14 s0 h) := by
  unfold b_J11_coder_14
  exact vv_iretB X rfl rfl dJ11_coder_14
noncomputable def f_J11_coder (a0 : Nat) (h : HP) : Option ((Int) × HP) :=
  iEQ 1 0
    (b_J11_coder_14 1 h)
    ((rdI h (some a0) [26] 1).bind fun v1 =>
    b_J11_coder_14 v1 h)
theorem A_J11_coder {M : hp_M} {G : va_G} {h0 : HP} (X : hp_X M G h0 "java/lang/String" "coder" cJ11_coder 1 (some .byte) [] 0 0) (a0 : Nat) (h : HP) : vv M G h0 1 (hp_End M G h0) jI h 0 [(0, LR (some a0))] [] (f_J11_coder a0 h) := by
  unfold f_J11_coder
  refine vv_gets (pc := 0) (w := LI 1) X (gs_0 _) rfl q436 dJ11_coder_0 ?_
  refine vv_if_eq (pc := 3) (tgt := 13) X dJ11_coder_3 rfl ?_ ?_
  · refine vv_iconst (pc := 13) X dJ11_coder_13 ?_
    exact vv_sub [] (by rfl) (B_J11_coder_14 X _ _)
  · refine vv_aload_n (pc := 6) X (kf := 0) (i := 0) rfl 0 rfl dJ11_coder_6 ?_
    refine vv_getI (pc := 7) X (fun _ z => by cases List.mem_singleton.mp z; exact fl_J11_15_26) dJ11_coder_7 (fun v1 => ?_)
    refine vv_goto (pc := 10) (tgt := 14) X dJ11_coder_10 rfl ?_
    exact vv_sub [] (by rfl) (B_J11_coder_14 X _ _)
theorem m_J11_coder {l : Launch} (hl : l.stackTraces = false) {G : va_G} (a0 : Nat) (h : HP) : ∀ r hf, f_J11_coder a0 h = some (r, hf) → Ct l yJ11_coder (ws_ yJ11_coder cJ11_coder 1 (some .byte)) 0 0 G h [.ref a0] (jI r) hf :=
  zz_ofW hl (by decide +kernel) (lv := [(0, LR (some a0))]) (by simp [lv_args, lvL, lvV, zz_rfc, zz_rfs, zz_ci, zz_cr, zz_cj, zz_cf, zz_cd]) (by simp [lg_sl, zz_rfc, zz_ci, zz_cr, zz_cj, zz_cf, zz_cd]) (fun _ X => A_J11_coder X a0 h)
-- J11_length java/lang/String.length()I
noncomputable def f_J11_length (a0 : Nat) (h : HP) : Option ((Int) × HP) :=
  (rdR h (some a0) [26] 0).bind fun v1 =>
  (alen h v1).bind fun v2 =>
  (rcv h (some a0) [26]).bind fun b5 =>
  hb (f_J11_coder b5 h) fun v3 h4 =>
  some ((iShr v2 v3), h4)
theorem A_J11_length {M : hp_M} {G : va_G} {h0 : HP} (X : hp_X M G h0 "java/lang/String" "length" cJ11_length 1 (some .int) [] 1 28) (a0 : Nat) (h : HP) : vv M G h0 1 (hp_End M G h0) jI h 0 [(0, LR (some a0))] [] (f_J11_length a0 h) := by
  unfold f_J11_length
  refine vv_aload_n (pc := 0) X (kf := 0) (i := 0) rfl 0 rfl dJ11_length_0 ?_
  refine vv_getR (pc := 1) X (fun _ z => by cases List.mem_singleton.mp z; exact fl_J11_9_26) dJ11_length_1 (fun v1 => ?_)
  refine vv_alen (pc := 4) X dJ11_length_4 (fun v2 => ?_)
  refine vv_aload_n (pc := 5) X (kf := 0) (i := 0) rfl 0 rfl dJ11_length_5 ?_
  refine vv_rcv (fun b5 t9 c9 fs9 e6 g9 k9 => ?_)
  cases List.mem_singleton.mp k9
  refine vv_callI (pc := 6) (rest := [LI v2]) (by rw [e6]; rfl) (fun r8 k8 e8 => zz_callV X (m_J11_coder (hlM X) _ _ _ _ e8) g9 rfl rfl q432 q433 q434 q146 q435 nh_J11 rfl (by decide) (by decide) (Nat.le_of_ble_eq_true rfl) dJ11_length_6) (fun v3 h4 => ?_)
  refine vv_ishr (pc := 9) X dJ11_length_9 ?_
  exact vv_iretI X rfl rfl dJ11_length_10
theorem m_J11_length {l : Launch} (hl : l.stackTraces = false) {G : va_G} (a0 : Nat) (h : HP) : ∀ r hf, f_J11_length a0 h = some (r, hf) → Ct l yJ11_length (ws_ yJ11_length cJ11_length 1 (some .int)) 1 28 G h [.ref a0] (jI r) hf :=
  zz_ofW hl (by decide +kernel) (lv := [(0, LR (some a0))]) (by simp [lv_args, lvL, lvV, zz_rfc, zz_rfs, zz_ci, zz_cr, zz_cj, zz_cf, zz_cd]) (by simp [lg_sl, zz_rfc, zz_ci, zz_cr, zz_cj, zz_cf, zz_cd]) (fun _ X => A_J11_length X a0 h)
-- J14_max java/lang/Math.max(II)I
noncomputable def b_J14_max_10 (s0 : Int) (h : HP) : Option ((Int) × HP) :=
  some (s0, h)
theorem B_J14_max_10 {M : hp_M} {G : va_G} {h0 : HP} (X : hp_X M G h0 "java/lang/Math" "max" cJ14_max 2 (some .int) [] 0 0) (s0 : Int) (h : HP) : vv M G h0 2 (hp_End M G h0) jI h 10 [] [LI s0] (b_J14_max_10 s0 h) := by
  unfold b_J14_max_10
  exact vv_iretI X rfl rfl dJ14_max_10
noncomputable def f_J14_max (a1 : Int) (a2 : Int) (h : HP) : Option ((Int) × HP) :=
  iLT a1 a2
    (b_J14_max_10 a2 h)
    (b_J14_max_10 a1 h)
theorem A_J14_max {M : hp_M} {G : va_G} {h0 : HP} (X : hp_X M G h0 "java/lang/Math" "max" cJ14_max 2 (some .int) [] 0 0) (a1 : Int) (a2 : Int) (h : HP) : vv M G h0 2 (hp_End M G h0) jI h 0 [(0, LI a1), (1, LI a2)] [] (f_J14_max a1 a2 h) := by
  unfold f_J14_max
  refine vv_iload_n (pc := 0) X (kf := 0) (i := 0) rfl 0 rfl dJ14_max_0 ?_
  refine vv_iload_n (pc := 1) X (kf := 1) (i := 1) rfl 1 rfl dJ14_max_1 ?_
  refine vv_icmp_lt (pc := 2) (tgt := 9) X dJ14_max_2 rfl ?_ ?_
  · refine vv_iload_n (pc := 9) X (kf := 1) (i := 1) rfl 1 rfl dJ14_max_9 ?_
    exact vv_sub [] (by rfl) (B_J14_max_10 X _ _)
  · refine vv_iload_n (pc := 5) X (kf := 0) (i := 0) rfl 0 rfl dJ14_max_5 ?_
    refine vv_goto (pc := 6) (tgt := 10) X dJ14_max_6 rfl ?_
    exact vv_sub [] (by rfl) (B_J14_max_10 X _ _)
theorem m_J14_max {l : Launch} (hl : l.stackTraces = false) {G : va_G} (a1 : Int) (a2 : Int) (h : HP) : ∀ r hf, f_J14_max a1 a2 h = some (r, hf) → Ct l yJ14_max (ws_ yJ14_max cJ14_max 2 (some .int)) 0 0 G h [.int (iI a1), .int (iI a2)] (jI r) hf :=
  zz_ofW hl (by decide +kernel) (lv := [(0, LI a1), (1, LI a2)]) (by simp [lv_args, lvL, lvV, zz_rfc, zz_rfs, zz_ci, zz_cr, zz_cj, zz_cf, zz_cd]) (by simp [lg_sl, zz_rfc, zz_ci, zz_cr, zz_cj, zz_cf, zz_cd]) (fun _ X => A_J14_max X a1 a2 h)
-- J19_stringSize java/lang/Integer.stringSize(I)I
noncomputable def c_J19_stringSize_16 (r16 : Int → Int → Int → Int → HP → Option ((Int) × HP)) (x0 : Int) (x1 : Int) (x2 : Int) (x3 : Int) (h : HP) : Option ((Int) × HP) :=
  iLE 10 x3
    (some ((10 + x1), h))
    (iLE x0 x2
      (r16 x0 x1 (10 * x2) (x3 + 1) h)
      (some ((x3 + x1), h)))
noncomputable def b_J19_stringSize_16 : Int → Int → Int → Int → HP → Option ((Int) × HP) := fx (fun _ _ _ _ _ => none) (c_J19_stringSize_16) FU
theorem C_J19_stringSize_16 {M : hp_M} {G : va_G} {h0 : HP} (X : hp_X M G h0 "java/lang/Integer" "stringSize" cJ19_stringSize 4 (some .int) [] 0 0) (r16 : Int → Int → Int → Int → HP → Option ((Int) × HP)) (hr16 : ∀ (y0 : Int) (y1 : Int) (y2 : Int) (y3 : Int) (h : HP), vv M G h0 4 (hp_End M G h0) jI h 16 [(0, LI y0), (1, LI y1), (2, LI y2), (3, LI y3)] [] (r16 y0 y1 y2 y3 h)) (x0 : Int) (x1 : Int) (x2 : Int) (x3 : Int) (h : HP) : vv M G h0 4 (hp_End M G h0) jI h 16 [(0, LI x0), (1, LI x1), (2, LI x2), (3, LI x3)] [] (c_J19_stringSize_16 r16 x0 x1 x2 x3 h) := by
  unfold c_J19_stringSize_16
  refine vv_iload_n (pc := 16) X (kf := 3) (i := 3) rfl 3 rfl dJ19_stringSize_16 ?_
  refine vv_bipush (pc := 17) X (by decide) dJ19_stringSize_17 ?_
  refine vv_icmp_ge (pc := 19) (tgt := 42) X dJ19_stringSize_19 rfl ?_ ?_
  · refine vv_bipush (pc := 42) X (by decide) dJ19_stringSize_42 ?_
    refine vv_iload_n (pc := 44) X (kf := 1) (i := 1) rfl 1 rfl dJ19_stringSize_44 ?_
    refine vv_iadd (pc := 45) X dJ19_stringSize_45 ?_
    exact vv_iretI X rfl rfl dJ19_stringSize_46
  · refine vv_iload_n (pc := 22) X (kf := 0) (i := 0) rfl 0 rfl dJ19_stringSize_22 ?_
    refine vv_iload_n (pc := 23) X (kf := 2) (i := 2) rfl 2 rfl dJ19_stringSize_23 ?_
    refine vv_icmp_le (pc := 24) (tgt := 31) X dJ19_stringSize_24 rfl ?_ ?_
    · refine vv_bipush (pc := 31) X (by decide) dJ19_stringSize_31 ?_
      refine vv_iload_n (pc := 33) X (kf := 2) (i := 2) rfl 2 rfl dJ19_stringSize_33 ?_
      refine vv_imul (pc := 34) X dJ19_stringSize_34 ?_
      refine vv_istore_n (pc := 35) (lv' := [(2, LI (10 * x2)), (0, LI x0), (1, LI x1), (3, LI x3)]) X (kf := 2) (i := 2) rfl (by decide) rfl dJ19_stringSize_35 ?_
      refine vv_iinc (pc := 36) (lv' := [(3, LI (x3 + 1)), (2, LI (10 * x2)), (0, LI x0), (1, LI x1)]) X 3 rfl (by decide) rfl dJ19_stringSize_36 ?_
      refine vv_goto (pc := 39) (tgt := 16) X dJ19_stringSize_39 rfl ?_
      exact vv_sub [2, 3, 1, 0] (by rfl) (hr16 _ _ _ _ _)
    · refine vv_iload_n (pc := 27) X (kf := 3) (i := 3) rfl 3 rfl dJ19_stringSize_27 ?_
      refine vv_iload_n (pc := 28) X (kf := 1) (i := 1) rfl 1 rfl dJ19_stringSize_28 ?_
      refine vv_iadd (pc := 29) X dJ19_stringSize_29 ?_
      exact vv_iretI X rfl rfl dJ19_stringSize_30
theorem B_J19_stringSize_16 {M : hp_M} {G : va_G} {h0 : HP} (X : hp_X M G h0 "java/lang/Integer" "stringSize" cJ19_stringSize 4 (some .int) [] 0 0) : ∀ (x0 : Int) (x1 : Int) (x2 : Int) (x3 : Int) (h : HP), vv M G h0 4 (hp_End M G h0) jI h 16 [(0, LI x0), (1, LI x1), (2, LI x2), (3, LI x3)] [] (b_J19_stringSize_16 x0 x1 x2 x3 h) := by
  unfold b_J19_stringSize_16
  generalize FU = n
  induction n with
  | zero => intro x0 x1 x2 x3 h; exact vv_none
  | succ n ih => exact C_J19_stringSize_16 X _ ih
noncomputable def b_J19_stringSize_11 (x0 : Int) (x1 : Int) (h : HP) : Option ((Int) × HP) :=
  b_J19_stringSize_16 x0 x1 (-10) 1 h
theorem B_J19_stringSize_11 {M : hp_M} {G : va_G} {h0 : HP} (X : hp_X M G h0 "java/lang/Integer" "stringSize" cJ19_stringSize 4 (some .int) [] 0 0) (x0 : Int) (x1 : Int) (h : HP) : vv M G h0 4 (hp_End M G h0) jI h 11 [(0, LI x0), (1, LI x1)] [] (b_J19_stringSize_11 x0 x1 h) := by
  unfold b_J19_stringSize_11
  refine vv_bipush (pc := 11) X (by decide) dJ19_stringSize_11 ?_
  refine vv_istore_n (pc := 13) (lv' := [(2, LI (-10)), (0, LI x0), (1, LI x1)]) X (kf := 2) (i := 2) rfl (by decide) rfl dJ19_stringSize_13 ?_
  refine vv_iconst (pc := 14) X dJ19_stringSize_14 ?_
  refine vv_istore_n (pc := 15) (lv' := [(3, LI 1), (2, LI (-10)), (0, LI x0), (1, LI x1)]) X (kf := 3) (i := 3) rfl (by decide) rfl dJ19_stringSize_15 ?_
  exact vv_sub [2, 3, 1, 0] (by rfl) (B_J19_stringSize_16 X _ _ _ _ _)
noncomputable def f_J19_stringSize (a1 : Int) (h : HP) : Option ((Int) × HP) :=
  iLT a1 0
    (b_J19_stringSize_11 a1 1 h)
    (b_J19_stringSize_11 (-a1) 0 h)
theorem A_J19_stringSize {M : hp_M} {G : va_G} {h0 : HP} (X : hp_X M G h0 "java/lang/Integer" "stringSize" cJ19_stringSize 4 (some .int) [] 0 0) (a1 : Int) (h : HP) : vv M G h0 4 (hp_End M G h0) jI h 0 [(0, LI a1)] [] (f_J19_stringSize a1 h) := by
  unfold f_J19_stringSize
  refine vv_iconst (pc := 0) X dJ19_stringSize_0 ?_
  refine vv_istore_n (pc := 1) (lv' := [(1, LI 1), (0, LI a1)]) X (kf := 1) (i := 1) rfl (by decide) rfl dJ19_stringSize_1 ?_
  refine vv_iload_n (pc := 2) X (kf := 0) (i := 0) rfl 1 rfl dJ19_stringSize_2 ?_
  refine vv_if_lt (pc := 3) (tgt := 11) X dJ19_stringSize_3 rfl ?_ ?_
  · exact vv_sub [1, 0] (by rfl) (B_J19_stringSize_11 X _ _ _)
  · refine vv_iconst (pc := 6) X dJ19_stringSize_6 ?_
    refine vv_istore_n (pc := 7) (lv' := [(1, LI 0), (0, LI a1)]) X (kf := 1) (i := 1) rfl (by decide) rfl dJ19_stringSize_7 ?_
    refine vv_iload_n (pc := 8) X (kf := 0) (i := 0) rfl 1 rfl dJ19_stringSize_8 ?_
    refine vv_ineg (pc := 9) X dJ19_stringSize_9 ?_
    refine vv_istore_n (pc := 10) (lv' := [(0, LI (-a1)), (1, LI 0)]) X (kf := 0) (i := 0) rfl (by decide) rfl dJ19_stringSize_10 ?_
    exact B_J19_stringSize_11 X _ _ _
theorem m_J19_stringSize {l : Launch} (hl : l.stackTraces = false) {G : va_G} (a1 : Int) (h : HP) : ∀ r hf, f_J19_stringSize a1 h = some (r, hf) → Ct l yJ19_stringSize (ws_ yJ19_stringSize cJ19_stringSize 4 (some .int)) 0 0 G h [.int (iI a1)] (jI r) hf :=
  zz_ofW hl (by decide +kernel) (lv := [(0, LI a1)]) (by simp [lv_args, lvL, lvV, zz_rfc, zz_rfs, zz_ci, zz_cr, zz_cj, zz_cf, zz_cd]) (by simp [lg_sl, zz_rfc, zz_ci, zz_cr, zz_cj, zz_cf, zz_cd]) (fun _ X => A_J19_stringSize X a1 h)
-- J9_isLatin1 java/lang/AbstractStringBuilder.isLatin1()Z
noncomputable def b_J9_isLatin1_18 (s0 : Int) (h : HP) : Option ((Int) × HP) :=
  rtZ s0 (some (s0, h))
theorem B_J9_isLatin1_18 {M : hp_M} {G : va_G} {h0 : HP} (X : hp_X M G h0 "java/lang/AbstractStringBuilder" "isLatin1" cJ9_isLatin1 1 (some .boolean) [] 0 0) (s0 : Int) (h : HP) : vv M G h0 1 (hp_End M G h0) jI h 18 [] [LI s0] (b_J9_isLatin1_18 s0 h) := by
  unfold b_J9_isLatin1_18
  exact vv_iretZ X rfl rfl dJ9_isLatin1_18
noncomputable def b_J9_isLatin1_17 (h : HP) : Option ((Int) × HP) :=
  b_J9_isLatin1_18 0 h
theorem B_J9_isLatin1_17 {M : hp_M} {G : va_G} {h0 : HP} (X : hp_X M G h0 "java/lang/AbstractStringBuilder" "isLatin1" cJ9_isLatin1 1 (some .boolean) [] 0 0) (h : HP) : vv M G h0 1 (hp_End M G h0) jI h 17 [] [] (b_J9_isLatin1_17 h) := by
  unfold b_J9_isLatin1_17
  refine vv_iconst (pc := 17) X dJ9_isLatin1_17 ?_
  exact B_J9_isLatin1_18 X _ _
noncomputable def f_J9_isLatin1 (a0 : Nat) (h : HP) : Option ((Int) × HP) :=
  iEQ 1 0
    (b_J9_isLatin1_17 h)
    ((rdI h (some a0) [25] 1).bind fun v1 =>
    iEQ v1 0
      (b_J9_isLatin1_18 1 h)
      (b_J9_isLatin1_17 h))
theorem A_J9_isLatin1 {M : hp_M} {G : va_G} {h0 : HP} (X : hp_X M G h0 "java/lang/AbstractStringBuilder" "isLatin1" cJ9_isLatin1 1 (some .boolean) [] 0 0) (a0 : Nat) (h : HP) : vv M G h0 1 (hp_End M G h0) jI h 0 [(0, LR (some a0))] [] (f_J9_isLatin1 a0 h) := by
  unfold f_J9_isLatin1
  refine vv_gets (pc := 0) (w := LI 1) X (gs_0 _) rfl q327 dJ9_isLatin1_0 ?_
  refine vv_if_eq (pc := 3) (tgt := 17) X dJ9_isLatin1_3 rfl ?_ ?_
  · exact vv_sub [] (by rfl) (B_J9_isLatin1_17 X _)
  · refine vv_aload_n (pc := 6) X (kf := 0) (i := 0) rfl 0 rfl dJ9_isLatin1_6 ?_
    refine vv_getI (pc := 7) X (fun _ z => by cases List.mem_singleton.mp z; exact fl_J9_22_25) dJ9_isLatin1_7 (fun v1 => ?_)
    refine vv_if_ne (pc := 10) (tgt := 17) X dJ9_isLatin1_10 rfl ?_ ?_
    · exact vv_sub [] (by rfl) (B_J9_isLatin1_17 X _)
    · refine vv_iconst (pc := 13) X dJ9_isLatin1_13 ?_
      refine vv_goto (pc := 14) (tgt := 18) X dJ9_isLatin1_14 rfl ?_
      exact vv_sub [] (by rfl) (B_J9_isLatin1_18 X _ _)
theorem m_J9_isLatin1 {l : Launch} (hl : l.stackTraces = false) {G : va_G} (a0 : Nat) (h : HP) : ∀ r hf, f_J9_isLatin1 a0 h = some (r, hf) → Ct l yJ9_isLatin1 (ws_ yJ9_isLatin1 cJ9_isLatin1 1 (some .boolean)) 0 0 G h [.ref a0] (jI r) hf :=
  zz_ofW hl (by decide +kernel) (lv := [(0, LR (some a0))]) (by simp [lv_args, lvL, lvV, zz_rfc, zz_rfs, zz_ci, zz_cr, zz_cj, zz_cf, zz_cd]) (by simp [lg_sl, zz_rfc, zz_ci, zz_cr, zz_cj, zz_cf, zz_cd]) (fun _ X => A_J9_isLatin1 X a0 h)
-- J19_getChars java/lang/Integer.getChars(II[B)I
noncomputable def b_J19_getChars_118 (x5 : Int) (h : HP) : Option ((Int) × HP) :=
  some (x5, h)
theorem B_J19_getChars_118 {M : hp_M} {G : va_G} {h0 : HP} (X : hp_X M G h0 "java/lang/Integer" "getChars" cJ19_getChars 7 (some .int) [] 0 0) (x5 : Int) (h : HP) : vv M G h0 7 (hp_End M G h0) jI h 118 [(5, LI x5)] [] (b_J19_getChars_118 x5 h) := by
  unfold b_J19_getChars_118
  refine vv_iload (pc := 118) X 0 rfl dJ19_getChars_118 ?_
  exact vv_iretI X rfl rfl dJ19_getChars_120
noncomputable def b_J19_getChars_104 (x2 : Option Nat) (x5 : Int) (x6 : Int) (h : HP) : Option ((Int) × HP) :=
  iEQ x6 0
    (b_J19_getChars_118 x5 h)
    ((astB h x2 (x5 + (-1)) 45).bind fun h3 =>
    b_J19_getChars_118 (x5 + (-1)) h3)
theorem B_J19_getChars_104 {M : hp_M} {G : va_G} {h0 : HP} (X : hp_X M G h0 "java/lang/Integer" "getChars" cJ19_getChars 7 (some .int) [] 0 0) (x2 : Option Nat) (x5 : Int) (x6 : Int) (h : HP) : vv M G h0 7 (hp_End M G h0) jI h 104 [(2, LR x2), (5, LI x5), (6, LI x6)] [] (b_J19_getChars_104 x2 x5 x6 h) := by
  unfold b_J19_getChars_104
  refine vv_iload (pc := 104) X 2 rfl dJ19_getChars_104 ?_
  refine vv_if_eq (pc := 106) (tgt := 118) X dJ19_getChars_106 rfl ?_ ?_
  · exact vv_sub [1] (by rfl) (B_J19_getChars_118 X _ _)
  · refine vv_aload_n (pc := 109) X (kf := 2) (i := 2) rfl 0 rfl dJ19_getChars_109 ?_
    refine vv_iinc (pc := 110) (lv' := [(5, LI (x5 + (-1))), (2, LR x2), (6, LI x6)]) X 1 rfl (by decide) rfl dJ19_getChars_110 ?_
    refine vv_iload (pc := 113) X 0 rfl dJ19_getChars_113 ?_
    refine vv_bipush (pc := 115) X (by decide) dJ19_getChars_115 ?_
    refine vv_bastore (pc := 117) X dJ19_getChars_117 (fun h3 => ?_)
    exact vv_sub [0] (by rfl) (B_J19_getChars_118 X _ _)
noncomputable def c_J19_getChars_22 (r22 : Int → Option Nat → Int → Int → HP → Option ((Int) × HP)) (x0 : Int) (x2 : Option Nat) (x5 : Int) (x6 : Int) (h : HP) : Option ((Int) × HP) :=
  iLT (-100) x0
    ((aldI h .byte (hp_c h 105) (-x0)).bind fun v1 =>
    (astB h x2 (x5 + (-1)) v1).bind fun h2 =>
    iLE (-9) x0
      (b_J19_getChars_104 x2 (x5 + (-1)) x6 h2)
      ((aldI h2 .byte (hp_c h2 106) (-x0)).bind fun v4 =>
      (astB h2 x2 ((x5 + (-1)) + (-1)) v4).bind fun h5 =>
      b_J19_getChars_104 x2 ((x5 + (-1)) + (-1)) x6 h5))
    ((iDV x0 100).bind fun v6 =>
    (aldI h .byte (hp_c h 105) ((v6 * 100) - x0)).bind fun v7 =>
    (astB h x2 (x5 + (-1)) v7).bind fun h8 =>
    (aldI h8 .byte (hp_c h8 106) ((v6 * 100) - x0)).bind fun v9 =>
    (astB h8 x2 ((x5 + (-1)) + (-1)) v9).bind fun h10 =>
    r22 v6 x2 ((x5 + (-1)) + (-1)) x6 h10)
noncomputable def b_J19_getChars_22 : Int → Option Nat → Int → Int → HP → Option ((Int) × HP) := fx (fun _ _ _ _ _ => none) (c_J19_getChars_22) FU
theorem C_J19_getChars_22 {M : hp_M} {G : va_G} {h0 : HP} (X : hp_X M G h0 "java/lang/Integer" "getChars" cJ19_getChars 7 (some .int) [] 0 0) (r22 : Int → Option Nat → Int → Int → HP → Option ((Int) × HP)) (hr22 : ∀ (y0 : Int) (y2 : Option Nat) (y5 : Int) (y6 : Int) (h : HP), vv M G h0 7 (hp_End M G h0) jI h 22 [(0, LI y0), (2, LR y2), (5, LI y5), (6, LI y6)] [] (r22 y0 y2 y5 y6 h)) (x0 : Int) (x2 : Option Nat) (x5 : Int) (x6 : Int) (h : HP) : vv M G h0 7 (hp_End M G h0) jI h 22 [(0, LI x0), (2, LR x2), (5, LI x5), (6, LI x6)] [] (c_J19_getChars_22 r22 x0 x2 x5 x6 h) := by
  unfold c_J19_getChars_22
  refine vv_iload_n (pc := 22) X (kf := 0) (i := 0) rfl 0 rfl dJ19_getChars_22 ?_
  refine vv_bipush (pc := 23) X (by decide) dJ19_getChars_23 ?_
  refine vv_icmp_gt (pc := 25) (tgt := 72) X dJ19_getChars_25 rfl ?_ ?_
  · refine vv_aload_n (pc := 72) X (kf := 2) (i := 2) rfl 1 rfl dJ19_getChars_72 ?_
    refine vv_iinc (pc := 73) (lv' := [(5, LI (x5 + (-1))), (0, LI x0), (2, LR x2), (6, LI x6)]) X 2 rfl (by decide) rfl dJ19_getChars_73 ?_
    refine vv_iload (pc := 76) X 0 rfl dJ19_getChars_76 ?_
    refine vv_gets (pc := 78) (w := LR (hp_c h 105)) X (gs_6 _) rfl q484 dJ19_getChars_78 ?_
    refine vv_iload_n (pc := 81) X (kf := 0) (i := 0) rfl 1 rfl dJ19_getChars_81 ?_
    refine vv_ineg (pc := 82) X dJ19_getChars_82 ?_
    refine vv_baload (pc := 83) X dJ19_getChars_83 (fun v1 => ?_)
    refine vv_bastore (pc := 84) X dJ19_getChars_84 (fun h2 => ?_)
    refine vv_iload_n (pc := 85) X (kf := 0) (i := 0) rfl 1 rfl dJ19_getChars_85 ?_
    refine vv_bipush (pc := 86) X (by decide) dJ19_getChars_86 ?_
    refine vv_icmp_ge (pc := 88) (tgt := 104) X dJ19_getChars_88 rfl ?_ ?_
    · exact vv_sub [2, 0, 3] (by rfl) (B_J19_getChars_104 X _ _ _ _)
    · refine vv_aload_n (pc := 91) X (kf := 2) (i := 2) rfl 2 rfl dJ19_getChars_91 ?_
      refine vv_iinc (pc := 92) (lv' := [(5, LI ((x5 + (-1)) + (-1))), (0, LI x0), (2, LR x2), (6, LI x6)]) X 0 rfl (by decide) rfl dJ19_getChars_92 ?_
      refine vv_iload (pc := 95) X 0 rfl dJ19_getChars_95 ?_
      refine vv_gets (pc := 97) (w := LR (hp_c h2 106)) X (gs_7 _) rfl q486 dJ19_getChars_97 ?_
      refine vv_iload_n (pc := 100) X (kf := 0) (i := 0) rfl 1 rfl dJ19_getChars_100 ?_
      refine vv_ineg (pc := 101) X dJ19_getChars_101 ?_
      refine vv_baload (pc := 102) X dJ19_getChars_102 (fun v4 => ?_)
      refine vv_bastore (pc := 103) X dJ19_getChars_103 (fun h5 => ?_)
      exact vv_sub [2, 0, 3] (by rfl) (B_J19_getChars_104 X _ _ _ _)
  · refine vv_iload_n (pc := 28) X (kf := 0) (i := 0) rfl 0 rfl dJ19_getChars_28 ?_
    refine vv_bipush (pc := 29) X (by decide) dJ19_getChars_29 ?_
    refine vv_idiv (pc := 31) X dJ19_getChars_31 (fun v6 => ?_)
    refine vv_istore_n (pc := 32) (lv' := [(3, LI v6), (0, LI x0), (2, LR x2), (5, LI x5), (6, LI x6)]) X (kf := 3) (i := 3) rfl (by decide) rfl dJ19_getChars_32 ?_
    refine vv_iload_n (pc := 33) X (kf := 3) (i := 3) rfl 0 rfl dJ19_getChars_33 ?_
    refine vv_bipush (pc := 34) X (by decide) dJ19_getChars_34 ?_
    refine vv_imul (pc := 36) X dJ19_getChars_36 ?_
    refine vv_iload_n (pc := 37) X (kf := 0) (i := 0) rfl 1 rfl dJ19_getChars_37 ?_
    refine vv_isub (pc := 38) X dJ19_getChars_38 ?_
    refine vv_istore (pc := 39) (lv' := [(4, LI ((v6 * 100) - x0)), (3, LI v6), (0, LI x0), (2, LR x2), (5, LI x5), (6, LI x6)]) X (by decide) rfl dJ19_getChars_39 ?_
    refine vv_iload_n (pc := 41) X (kf := 3) (i := 3) rfl 1 rfl dJ19_getChars_41 ?_
    refine vv_istore_n (pc := 42) (lv' := [(0, LI v6), (4, LI ((v6 * 100) - x0)), (3, LI v6), (2, LR x2), (5, LI x5), (6, LI x6)]) X (kf := 0) (i := 0) rfl (by decide) rfl dJ19_getChars_42 ?_
    refine vv_aload_n (pc := 43) X (kf := 2) (i := 2) rfl 3 rfl dJ19_getChars_43 ?_
    refine vv_iinc (pc := 44) (lv' := [(5, LI (x5 + (-1))), (0, LI v6), (4, LI ((v6 * 100) - x0)), (3, LI v6), (2, LR x2), (6, LI x6)]) X 4 rfl (by decide) rfl dJ19_getChars_44 ?_
    refine vv_iload (pc := 47) X 0 rfl dJ19_getChars_47 ?_
    refine vv_gets (pc := 49) (w := LR (hp_c h 105)) X (gs_6 _) rfl q484 dJ19_getChars_49 ?_
    refine vv_iload (pc := 52) X 2 rfl dJ19_getChars_52 ?_
    refine vv_baload (pc := 54) X dJ19_getChars_54 (fun v7 => ?_)
    refine vv_bastore (pc := 55) X dJ19_getChars_55 (fun h8 => ?_)
    refine vv_aload_n (pc := 56) X (kf := 2) (i := 2) rfl 4 rfl dJ19_getChars_56 ?_
    refine vv_iinc (pc := 57) (lv' := [(5, LI ((x5 + (-1)) + (-1))), (0, LI v6), (4, LI ((v6 * 100) - x0)), (3, LI v6), (2, LR x2), (6, LI x6)]) X 0 rfl (by decide) rfl dJ19_getChars_57 ?_
    refine vv_iload (pc := 60) X 0 rfl dJ19_getChars_60 ?_
    refine vv_gets (pc := 62) (w := LR (hp_c h8 106)) X (gs_7 _) rfl q486 dJ19_getChars_62 ?_
    refine vv_iload (pc := 65) X 2 rfl dJ19_getChars_65 ?_
    refine vv_baload (pc := 67) X dJ19_getChars_67 (fun v9 => ?_)
    refine vv_bastore (pc := 68) X dJ19_getChars_68 (fun h10 => ?_)
    refine vv_goto (pc := 69) (tgt := 22) X dJ19_getChars_69 rfl ?_
    exact vv_sub [1, 4, 0, 5] (by rfl) (hr22 _ _ _ _ _)
theorem B_J19_getChars_22 {M : hp_M} {G : va_G} {h0 : HP} (X : hp_X M G h0 "java/lang/Integer" "getChars" cJ19_getChars 7 (some .int) [] 0 0) : ∀ (x0 : Int) (x2 : Option Nat) (x5 : Int) (x6 : Int) (h : HP), vv M G h0 7 (hp_End M G h0) jI h 22 [(0, LI x0), (2, LR x2), (5, LI x5), (6, LI x6)] [] (b_J19_getChars_22 x0 x2 x5 x6 h) := by
  unfold b_J19_getChars_22
  generalize FU = n
  induction n with
  | zero => intro x0 x2 x5 x6 h; exact vv_none
  | succ n ih => exact C_J19_getChars_22 X _ ih
noncomputable def b_J19_getChars_12 (x0 : Int) (x2 : Option Nat) (x5 : Int) (s0 : Int) (h : HP) : Option ((Int) × HP) :=
  iEQ s0 0
    (b_J19_getChars_22 (-x0) x2 x5 s0 h)
    (b_J19_getChars_22 x0 x2 x5 s0 h)
theorem B_J19_getChars_12 {M : hp_M} {G : va_G} {h0 : HP} (X : hp_X M G h0 "java/lang/Integer" "getChars" cJ19_getChars 7 (some .int) [] 0 0) (x0 : Int) (x2 : Option Nat) (x5 : Int) (s0 : Int) (h : HP) : vv M G h0 7 (hp_End M G h0) jI h 12 [(0, LI x0), (2, LR x2), (5, LI x5)] [LI s0] (b_J19_getChars_12 x0 x2 x5 s0 h) := by
  unfold b_J19_getChars_12
  refine vv_istore (pc := 12) (lv' := [(6, LI s0), (0, LI x0), (2, LR x2), (5, LI x5)]) X (by decide) rfl dJ19_getChars_12 ?_
  refine vv_iload (pc := 14) X 0 rfl dJ19_getChars_14 ?_
  refine vv_if_ne (pc := 16) (tgt := 22) X dJ19_getChars_16 rfl ?_ ?_
  · exact vv_sub [1, 2, 3, 0] (by rfl) (B_J19_getChars_22 X _ _ _ _ _)
  · refine vv_iload_n (pc := 19) X (kf := 0) (i := 0) rfl 1 rfl dJ19_getChars_19 ?_
    refine vv_ineg (pc := 20) X dJ19_getChars_20 ?_
    refine vv_istore_n (pc := 21) (lv' := [(0, LI (-x0)), (6, LI s0), (2, LR x2), (5, LI x5)]) X (kf := 0) (i := 0) rfl (by decide) rfl dJ19_getChars_21 ?_
    exact vv_sub [0, 2, 3, 1] (by rfl) (B_J19_getChars_22 X _ _ _ _ _)
noncomputable def f_J19_getChars (a1 : Int) (a2 : Int) (a3 : Option Nat) (h : HP) : Option ((Int) × HP) :=
  iLE 0 a1
    (b_J19_getChars_12 a1 a3 a2 0 h)
    (b_J19_getChars_12 a1 a3 a2 1 h)
theorem A_J19_getChars {M : hp_M} {G : va_G} {h0 : HP} (X : hp_X M G h0 "java/lang/Integer" "getChars" cJ19_getChars 7 (some .int) [] 0 0) (a1 : Int) (a2 : Int) (a3 : Option Nat) (h : HP) : vv M G h0 7 (hp_End M G h0) jI h 0 [(0, LI a1), (1, LI a2), (2, LR a3)] [] (f_J19_getChars a1 a2 a3 h) := by
  unfold f_J19_getChars
  refine vv_iload_n (pc := 0) X (kf := 1) (i := 1) rfl 1 rfl dJ19_getChars_0 ?_
  refine vv_istore (pc := 1) (lv' := [(5, LI a2), (0, LI a1), (1, LI a2), (2, LR a3)]) X (by decide) rfl dJ19_getChars_1 ?_
  refine vv_iload_n (pc := 3) X (kf := 0) (i := 0) rfl 1 rfl dJ19_getChars_3 ?_
  refine vv_if_ge (pc := 4) (tgt := 11) X dJ19_getChars_4 rfl ?_ ?_
  · refine vv_iconst (pc := 11) X dJ19_getChars_11 ?_
    exact vv_sub [1, 3, 0] (by rfl) (B_J19_getChars_12 X _ _ _ _ _)
  · refine vv_iconst (pc := 7) X dJ19_getChars_7 ?_
    refine vv_goto (pc := 8) (tgt := 12) X dJ19_getChars_8 rfl ?_
    exact vv_sub [1, 3, 0] (by rfl) (B_J19_getChars_12 X _ _ _ _ _)
theorem m_J19_getChars {l : Launch} (hl : l.stackTraces = false) {G : va_G} (a1 : Int) (a2 : Int) (a3 : Option Nat) (h : HP) : ∀ r hf, f_J19_getChars a1 a2 a3 h = some (r, hf) → Ct l yJ19_getChars (ws_ yJ19_getChars cJ19_getChars 7 (some .int)) 0 0 G h [.int (iI a1), .int (iI a2), va_rf a3] (jI r) hf :=
  zz_ofW hl (by decide +kernel) (lv := [(0, LI a1), (1, LI a2), (2, LR a3)]) (by simp [lv_args, lvL, lvV, zz_rfc, zz_rfs, zz_ci, zz_cr, zz_cj, zz_cf, zz_cd]) (by simp [lg_sl, zz_rfc, zz_ci, zz_cr, zz_cj, zz_cf, zz_cd]) (fun _ X => A_J19_getChars X a1 a2 a3 h)
-- J9_append_2 java/lang/AbstractStringBuilder.append(I)Ljava/lang/AbstractStringBuilder;
noncomputable def f_J9_append_2 (a0 : Nat) (a1 : Int) (h : HP) : Option ((Option Nat) × HP) :=
  (rdI h (some a0) [25] 3).bind fun v1 =>
  hb (f_J19_stringSize a1 h) fun v2 h3 =>
  (rcv h3 (some a0) [25]).bind fun b6 =>
  hb (f_J9_ensureCapacityInternal b6 (v1 + v2) h3) fun _ h5 =>
  (rcv h5 (some a0) [25]).bind fun b10 =>
  hb (f_J9_isLatin1 b10 h5) fun v8 h9 =>
  iEQ v8 0
    ((rdR h9 (some a0) [25] 0).bind fun v12 =>
    none)
    ((rdR h9 (some a0) [25] 0).bind fun v13 =>
    hb (f_J19_getChars a1 (v1 + v2) v13 h9) fun v14 h15 =>
    (wrI h15 (some a0) [25] 3 (v1 + v2)).bind fun h16 =>
    some ((some a0), h16))
theorem A_J9_append_2 {M : hp_M} {G : va_G} {h0 : HP} (X : hp_X M G h0 "java/lang/AbstractStringBuilder" "append" cJ9_append_2 4 (some (.object "java/lang/AbstractStringBuilder")) [] 1 34) (a0 : Nat) (a1 : Int) (h : HP) : vv M G h0 4 (hp_End M G h0) jR h 0 [(0, LR (some a0)), (1, LI a1)] [] (f_J9_append_2 a0 a1 h) := by
  unfold f_J9_append_2
  refine vv_aload_n (pc := 0) X (kf := 0) (i := 0) rfl 0 rfl dJ9_append_2_0 ?_
  refine vv_getI (pc := 1) X (fun _ z => by cases List.mem_singleton.mp z; exact fl_J9_79_25) dJ9_append_2_1 (fun v1 => ?_)
  refine vv_istore_n (pc := 4) (lv' := [(2, LI v1), (0, LR (some a0)), (1, LI a1)]) X (kf := 2) (i := 2) rfl (by decide) rfl dJ9_append_2_4 ?_
  refine vv_iload_n (pc := 5) X (kf := 2) (i := 2) rfl 0 rfl dJ9_append_2_5 ?_
  refine vv_iload_n (pc := 6) X (kf := 1) (i := 1) rfl 2 rfl dJ9_append_2_6 ?_
  refine vv_callI (pc := 7) (rest := [LI v1]) (by rfl) (fun r8 k8 e8 => zz_callS X (m_J19_stringSize (hlM X) _ _ _ _ e8) q478 q479 q155 q480 nh_J19 rfl (by decide) (by decide) (Nat.le_of_ble_eq_true rfl) dJ9_append_2_7) (fun v2 h3 => ?_)
  refine vv_iadd (pc := 10) X dJ9_append_2_10 ?_
  refine vv_istore_n (pc := 11) (lv' := [(3, LI (v1 + v2)), (2, LI v1), (0, LR (some a0)), (1, LI a1)]) X (kf := 3) (i := 3) rfl (by decide) rfl dJ9_append_2_11 ?_
  refine vv_aload_n (pc := 12) X (kf := 0) (i := 0) rfl 2 rfl dJ9_append_2_12 ?_
  refine vv_iload_n (pc := 13) X (kf := 3) (i := 3) rfl 0 rfl dJ9_append_2_13 ?_
  refine vv_rcv (fun b6 t9 c9 fs9 e7 g9 k9 => ?_)
  cases List.mem_singleton.mp k9
  refine vv_callV (pc := 14) (rest := []) (by rw [e7]; rfl) (fun r8 k8 e8 => zz_callP X (m_J9_ensureCapacityInternal (hlM X) _ _ _ _ _ e8) g9 rfl q362 q364 q363 q512 rfl q144 q365 nh_J9 rfl (by decide) (by decide) (Nat.le_of_ble_eq_true rfl) dJ9_append_2_14) (fun v4 h5 => ?_)
  refine vv_aload_n (pc := 17) X (kf := 0) (i := 0) rfl 2 rfl dJ9_append_2_17 ?_
  refine vv_rcv (fun b10 t9 c9 fs9 e11 g9 k9 => ?_)
  cases List.mem_singleton.mp k9
  refine vv_callI (pc := 18) (rest := []) (by rw [e11]; rfl) (fun r8 k8 e8 => zz_callW X (m_J9_isLatin1 (hlM X) _ _ _ _ e8) g9 rfl q397 q398 q400 q144 q401 nh_J9 rfl (by decide) (by decide) (Nat.le_of_ble_eq_true rfl) dJ9_append_2_18) (fun v8 h9 => ?_)
  refine vv_if_eq (pc := 21) (tgt := 37) X dJ9_append_2_21 rfl ?_ ?_
  · refine vv_iload_n (pc := 37) X (kf := 1) (i := 1) rfl 3 rfl dJ9_append_2_37 ?_
    refine vv_iload_n (pc := 38) X (kf := 2) (i := 2) rfl 1 rfl dJ9_append_2_38 ?_
    refine vv_iload_n (pc := 39) X (kf := 3) (i := 3) rfl 0 rfl dJ9_append_2_39 ?_
    refine vv_aload_n (pc := 40) X (kf := 0) (i := 0) rfl 2 rfl dJ9_append_2_40 ?_
    refine vv_getR (pc := 41) X (fun _ z => by cases List.mem_singleton.mp z; exact fl_J9_15_25) dJ9_append_2_41 (fun v12 => ?_)
    exact vv_none
  · refine vv_iload_n (pc := 24) X (kf := 1) (i := 1) rfl 3 rfl dJ9_append_2_24 ?_
    refine vv_iload_n (pc := 25) X (kf := 3) (i := 3) rfl 0 rfl dJ9_append_2_25 ?_
    refine vv_aload_n (pc := 26) X (kf := 0) (i := 0) rfl 2 rfl dJ9_append_2_26 ?_
    refine vv_getR (pc := 27) X (fun _ z => by cases List.mem_singleton.mp z; exact fl_J9_15_25) dJ9_append_2_27 (fun v13 => ?_)
    refine vv_callI (pc := 30) (rest := []) (by rfl) (fun r8 k8 e8 => zz_callS X (m_J19_getChars (hlM X) _ _ _ _ _ _ e8) q481 q482 q155 q483 nh_J19 rfl (by decide) (by decide) (Nat.le_of_ble_eq_true rfl) dJ9_append_2_30) (fun v14 h15 => ?_)
    refine vv_pop (pc := 33) X rfl dJ9_append_2_33 ?_
    refine vv_goto (pc := 34) (tgt := 48) X dJ9_append_2_34 rfl ?_
    refine vv_aload_n (pc := 48) X (kf := 0) (i := 0) rfl 2 rfl dJ9_append_2_48 ?_
    refine vv_iload_n (pc := 49) X (kf := 3) (i := 3) rfl 0 rfl dJ9_append_2_49 ?_
    refine vv_putI (pc := 50) (fin := false) X (fun _ z => by cases List.mem_singleton.mp z; exact fl_J9_79_25) (fun z => nomatch z) (fun z => nomatch z) dJ9_append_2_50 (fun h16 => ?_)
    refine vv_aload_n (pc := 53) X (kf := 0) (i := 0) rfl 2 rfl dJ9_append_2_53 ?_
    exact vv_aretO X rfl rfl dJ9_append_2_54
theorem m_J9_append_2 {l : Launch} (hl : l.stackTraces = false) {G : va_G} (a0 : Nat) (a1 : Int) (h : HP) : ∀ r hf, f_J9_append_2 a0 a1 h = some (r, hf) → Ct l yJ9_append_2 (ws_ yJ9_append_2 cJ9_append_2 4 (some (.object "java/lang/AbstractStringBuilder"))) 1 34 G h [.ref a0, .int (iI a1)] (jR r) hf :=
  zz_ofW hl (by decide +kernel) (lv := [(0, LR (some a0)), (1, LI a1)]) (by simp [lv_args, lvL, lvV, zz_rfc, zz_rfs, zz_ci, zz_cr, zz_cj, zz_cf, zz_cd]) (by simp [lg_sl, zz_rfc, zz_ci, zz_cr, zz_cj, zz_cf, zz_cd]) (fun _ X => A_J9_append_2 X a0 a1 h)
-- J10_append_2 java/lang/StringBuilder.append(I)Ljava/lang/StringBuilder;
noncomputable def f_J10_append_2 (a0 : Nat) (a1 : Int) (h : HP) : Option ((Option Nat) × HP) :=
  (rcv h (some a0) [25]).bind fun b4 =>
  hb (f_J9_append_2 b4 a1 h) fun v1 h2 =>
  some ((some a0), h2)
theorem A_J10_append_2 {M : hp_M} {G : va_G} {h0 : HP} (X : hp_X M G h0 "java/lang/StringBuilder" "append" cJ10_append_2 2 (some (.object "java/lang/StringBuilder")) [] 2 65) (a0 : Nat) (a1 : Int) (h : HP) : vv M G h0 2 (hp_End M G h0) jR h 0 [(0, LR (some a0)), (1, LI a1)] [] (f_J10_append_2 a0 a1 h) := by
  unfold f_J10_append_2
  refine vv_aload_n (pc := 0) X (kf := 0) (i := 0) rfl 0 rfl dJ10_append_2_0 ?_
  refine vv_iload_n (pc := 1) X (kf := 1) (i := 1) rfl 1 rfl dJ10_append_2_1 ?_
  refine vv_rcv (fun b4 t9 c9 fs9 e5 g9 k9 => ?_)
  cases List.mem_singleton.mp k9
  refine vv_callR (pc := 2) (rest := []) (by rw [e5]; rfl) (fun r8 k8 e8 => zz_callSU X (m_J9_append_2 (hlM X) _ _ _ _ _ e8) g9 rfl q475 q4095 q348 q476 q144 q477 (by decide) rfl (by decide) (by decide) (Nat.le_of_ble_eq_true rfl) dJ10_append_2_2) (fun v1 h2 => ?_)
  refine vv_pop (pc := 5) X rfl dJ10_append_2_5 ?_
  refine vv_aload_n (pc := 6) X (kf := 0) (i := 0) rfl 0 rfl dJ10_append_2_6 ?_
  exact vv_aretO X rfl rfl dJ10_append_2_7
theorem m_J10_append_2 {l : Launch} (hl : l.stackTraces = false) {G : va_G} (a0 : Nat) (a1 : Int) (h : HP) : ∀ r hf, f_J10_append_2 a0 a1 h = some (r, hf) → Ct l yJ10_append_2 (ws_ yJ10_append_2 cJ10_append_2 2 (some (.object "java/lang/StringBuilder"))) 2 65 G h [.ref a0, .int (iI a1)] (jR r) hf :=
  zz_ofW hl (by decide +kernel) (lv := [(0, LR (some a0)), (1, LI a1)]) (by simp [lv_args, lvL, lvV, zz_rfc, zz_rfs, zz_ci, zz_cr, zz_cj, zz_cf, zz_cd]) (by simp [lg_sl, zz_rfc, zz_ci, zz_cr, zz_cj, zz_cf, zz_cd]) (fun _ X => A_J10_append_2 X a0 a1 h)
-- J9_getValue java/lang/AbstractStringBuilder.getValue()[B
noncomputable def f_J9_getValue (a0 : Nat) (h : HP) : Option ((Option Nat) × HP) :=
  (rdR h (some a0) [25] 0).bind fun v1 =>
  some (v1, h)
theorem A_J9_getValue {M : hp_M} {G : va_G} {h0 : HP} (X : hp_X M G h0 "java/lang/AbstractStringBuilder" "getValue" cJ9_getValue 1 (some (.array .byte)) [] 0 0) (a0 : Nat) (h : HP) : vv M G h0 1 (hp_End M G h0) jR h 0 [(0, LR (some a0))] [] (f_J9_getValue a0 h) := by
  unfold f_J9_getValue
  refine vv_aload_n (pc := 0) X (kf := 0) (i := 0) rfl 0 rfl dJ9_getValue_0 ?_
  refine vv_getR (pc := 1) X (fun _ z => by cases List.mem_singleton.mp z; exact fl_J9_15_25) dJ9_getValue_1 (fun v1 => ?_)
  exact vv_aretA X rfl rfl dJ9_getValue_4
theorem m_J9_getValue {l : Launch} (hl : l.stackTraces = false) {G : va_G} (a0 : Nat) (h : HP) : ∀ r hf, f_J9_getValue a0 h = some (r, hf) → Ct l yJ9_getValue (ws_ yJ9_getValue cJ9_getValue 1 (some (.array .byte))) 0 0 G h [.ref a0] (jR r) hf :=
  zz_ofW hl (by decide +kernel) (lv := [(0, LR (some a0))]) (by simp [lv_args, lvL, lvV, zz_rfc, zz_rfs, zz_ci, zz_cr, zz_cj, zz_cf, zz_cd]) (by simp [lg_sl, zz_rfc, zz_ci, zz_cr, zz_cj, zz_cf, zz_cd]) (fun _ X => A_J9_getValue X a0 h)
-- J9_length java/lang/AbstractStringBuilder.length()I
noncomputable def f_J9_length (a0 : Nat) (h : HP) : Option ((Int) × HP) :=
  (rdI h (some a0) [25] 3).bind fun v1 =>
  some (v1, h)
theorem A_J9_length {M : hp_M} {G : va_G} {h0 : HP} (X : hp_X M G h0 "java/lang/AbstractStringBuilder" "length" cJ9_length 1 (some .int) [] 0 0) (a0 : Nat) (h : HP) : vv M G h0 1 (hp_End M G h0) jI h 0 [(0, LR (some a0))] [] (f_J9_length a0 h) := by
  unfold f_J9_length
  refine vv_aload_n (pc := 0) X (kf := 0) (i := 0) rfl 0 rfl dJ9_length_0 ?_
  refine vv_getI (pc := 1) X (fun _ z => by cases List.mem_singleton.mp z; exact fl_J9_79_25) dJ9_length_1 (fun v1 => ?_)
  exact vv_iretI X rfl rfl dJ9_length_4
theorem m_J9_length {l : Launch} (hl : l.stackTraces = false) {G : va_G} (a0 : Nat) (h : HP) : ∀ r hf, f_J9_length a0 h = some (r, hf) → Ct l yJ9_length (ws_ yJ9_length cJ9_length 1 (some .int)) 0 0 G h [.ref a0] (jI r) hf :=
  zz_ofW hl (by decide +kernel) (lv := [(0, LR (some a0))]) (by simp [lv_args, lvL, lvV, zz_rfc, zz_rfs, zz_ci, zz_cr, zz_cj, zz_cf, zz_cd]) (by simp [lg_sl, zz_rfc, zz_ci, zz_cr, zz_cj, zz_cf, zz_cd]) (fun _ X => A_J9_length X a0 h)
-- J10_length java/lang/StringBuilder.length()I
noncomputable def f_J10_length (a0 : Nat) (h : HP) : Option ((Int) × HP) :=
  (rcv h (some a0) [25]).bind fun b4 =>
  hb (f_J9_length b4 h) fun v1 h2 =>
  some (v1, h2)
theorem A_J10_length {M : hp_M} {G : va_G} {h0 : HP} (X : hp_X M G h0 "java/lang/StringBuilder" "length" cJ10_length 1 (some .int) [] 1 28) (a0 : Nat) (h : HP) : vv M G h0 1 (hp_End M G h0) jI h 0 [(0, LR (some a0))] [] (f_J10_length a0 h) := by
  unfold f_J10_length
  refine vv_aload_n (pc := 0) X (kf := 0) (i := 0) rfl 0 rfl dJ10_length_0 ?_
  refine vv_rcv (fun b4 t9 c9 fs9 e5 g9 k9 => ?_)
  cases List.mem_singleton.mp k9
  refine vv_callI (pc := 1) (rest := []) (by rw [e5]; rfl) (fun r8 k8 e8 => zz_callSU X (m_J9_length (hlM X) _ _ _ _ e8) g9 rfl q520 q516 q348 q515 q144 q521 (by decide) rfl (by decide) (by decide) (Nat.le_of_ble_eq_true rfl) dJ10_length_1) (fun v1 h2 => ?_)
  exact vv_iretI X rfl rfl dJ10_length_4
theorem m_J10_length {l : Launch} (hl : l.stackTraces = false) {G : va_G} (a0 : Nat) (h : HP) : ∀ r hf, f_J10_length a0 h = some (r, hf) → Ct l yJ10_length (ws_ yJ10_length cJ10_length 1 (some .int)) 1 28 G h [.ref a0] (jI r) hf :=
  zz_ofW hl (by decide +kernel) (lv := [(0, LR (some a0))]) (by simp [lv_args, lvL, lvV, zz_rfc, zz_rfs, zz_ci, zz_cr, zz_cj, zz_cf, zz_cd]) (by simp [lg_sl, zz_rfc, zz_ci, zz_cr, zz_cj, zz_cf, zz_cd]) (fun _ X => A_J10_length X a0 h)
-- J15_checkLength java/util/Arrays.checkLength(II)V
noncomputable def f_J15_checkLength (a1 : Int) (a2 : Int) (h : HP) : Option ((Unit) × HP) :=
  iLE a1 a2
    (some ((), h))
    (none)
theorem A_J15_checkLength {M : hp_M} {G : va_G} {h0 : HP} (X : hp_X M G h0 "java/util/Arrays" "checkLength" cJ15_checkLength 2 none [] 0 0) (a1 : Int) (a2 : Int) (h : HP) : vv M G h0 2 (hp_End M G h0) jV h 0 [(0, LI a1), (1, LI a2)] [] (f_J15_checkLength a1 a2 h) := by
  unfold f_J15_checkLength
  refine vv_iload_n (pc := 0) X (kf := 1) (i := 1) rfl 1 rfl dJ15_checkLength_0 ?_
  refine vv_iload_n (pc := 1) X (kf := 0) (i := 0) rfl 0 rfl dJ15_checkLength_1 ?_
  refine vv_icmp_ge (pc := 2) (tgt := 37) X dJ15_checkLength_2 rfl ?_ ?_
  · exact vv_vreturn X rfl rfl dJ15_checkLength_37
  · exact vv_none
theorem m_J15_checkLength {l : Launch} (hl : l.stackTraces = false) {G : va_G} (a1 : Int) (a2 : Int) (h : HP) : ∀ r hf, f_J15_checkLength a1 a2 h = some (r, hf) → Ct l yJ15_checkLength (ws_ yJ15_checkLength cJ15_checkLength 2 none) 0 0 G h [.int (iI a1), .int (iI a2)] (jV r) hf :=
  zz_ofW hl (by decide +kernel) (lv := [(0, LI a1), (1, LI a2)]) (by simp [lv_args, lvL, lvV, zz_rfc, zz_rfs, zz_ci, zz_cr, zz_cj, zz_cf, zz_cd]) (by simp [lg_sl, zz_rfc, zz_ci, zz_cr, zz_cj, zz_cf, zz_cd]) (fun _ X => A_J15_checkLength X a1 a2 h)
-- J14_min java/lang/Math.min(II)I
noncomputable def b_J14_min_10 (s0 : Int) (h : HP) : Option ((Int) × HP) :=
  some (s0, h)
theorem B_J14_min_10 {M : hp_M} {G : va_G} {h0 : HP} (X : hp_X M G h0 "java/lang/Math" "min" cJ14_min 2 (some .int) [] 0 0) (s0 : Int) (h : HP) : vv M G h0 2 (hp_End M G h0) jI h 10 [] [LI s0] (b_J14_min_10 s0 h) := by
  unfold b_J14_min_10
  exact vv_iretI X rfl rfl dJ14_min_10
noncomputable def f_J14_min (a1 : Int) (a2 : Int) (h : HP) : Option ((Int) × HP) :=
  iLT a2 a1
    (b_J14_min_10 a2 h)
    (b_J14_min_10 a1 h)
theorem A_J14_min {M : hp_M} {G : va_G} {h0 : HP} (X : hp_X M G h0 "java/lang/Math" "min" cJ14_min 2 (some .int) [] 0 0) (a1 : Int) (a2 : Int) (h : HP) : vv M G h0 2 (hp_End M G h0) jI h 0 [(0, LI a1), (1, LI a2)] [] (f_J14_min a1 a2 h) := by
  unfold f_J14_min
  refine vv_iload_n (pc := 0) X (kf := 0) (i := 0) rfl 0 rfl dJ14_min_0 ?_
  refine vv_iload_n (pc := 1) X (kf := 1) (i := 1) rfl 1 rfl dJ14_min_1 ?_
  refine vv_icmp_gt (pc := 2) (tgt := 9) X dJ14_min_2 rfl ?_ ?_
  · refine vv_iload_n (pc := 9) X (kf := 1) (i := 1) rfl 1 rfl dJ14_min_9 ?_
    exact vv_sub [] (by rfl) (B_J14_min_10 X _ _)
  · refine vv_iload_n (pc := 5) X (kf := 0) (i := 0) rfl 0 rfl dJ14_min_5 ?_
    refine vv_goto (pc := 6) (tgt := 10) X dJ14_min_6 rfl ?_
    exact vv_sub [] (by rfl) (B_J14_min_10 X _ _)
theorem m_J14_min {l : Launch} (hl : l.stackTraces = false) {G : va_G} (a1 : Int) (a2 : Int) (h : HP) : ∀ r hf, f_J14_min a1 a2 h = some (r, hf) → Ct l yJ14_min (ws_ yJ14_min cJ14_min 2 (some .int)) 0 0 G h [.int (iI a1), .int (iI a2)] (jI r) hf :=
  zz_ofW hl (by decide +kernel) (lv := [(0, LI a1), (1, LI a2)]) (by simp [lv_args, lvL, lvV, zz_rfc, zz_rfs, zz_ci, zz_cr, zz_cj, zz_cf, zz_cd]) (by simp [lg_sl, zz_rfc, zz_ci, zz_cr, zz_cj, zz_cf, zz_cd]) (fun _ X => A_J14_min X a1 a2 h)
-- J15_copyOfRangeByte java/util/Arrays.copyOfRangeByte([BII)[B
noncomputable def f_J15_copyOfRangeByte (a1 : Option Nat) (a2 : Int) (a3 : Int) (h : HP) : Option ((Option Nat) × HP) :=
  hb (f_J15_checkLength a2 a3 h) fun _ h2 =>
  hb (nwI h2 (tgR h2 a1) .byte (a3 - a2)) fun v3 h4 =>
  (alen h4 a1).bind fun v5 =>
  hb (f_J14_min (v5 - a2) (a3 - a2) h4) fun v6 h7 =>
  (acpI h7 .byte a1 a2 v3 0 v6).bind fun h8 =>
  some (v3, h8)
theorem A_J15_copyOfRangeByte {M : hp_M} {G : va_G} {h0 : HP} (X : hp_X M G h0 "java/util/Arrays" "copyOfRangeByte" cJ15_copyOfRangeByte 5 (some (.array .byte)) [] 1 100) (a1 : Option Nat) (a2 : Int) (a3 : Int) (h : HP) : vv M G h0 5 (hp_End M G h0) jR h 0 [(0, LR a1), (1, LI a2), (2, LI a3)] [] (f_J15_copyOfRangeByte a1 a2 a3 h) := by
  unfold f_J15_copyOfRangeByte
  refine vv_iload_n (pc := 0) X (kf := 1) (i := 1) rfl 1 rfl dJ15_copyOfRangeByte_0 ?_
  refine vv_iload_n (pc := 1) X (kf := 2) (i := 2) rfl 2 rfl dJ15_copyOfRangeByte_1 ?_
  refine vv_callV (pc := 2) (rest := []) (by rfl) (fun r8 k8 e8 => zz_callS X (m_J15_checkLength (hlM X) _ _ _ _ _ e8) q529 q530 q150 q531 nh_J15 rfl (by decide) (by decide) (Nat.le_of_ble_eq_true rfl) dJ15_copyOfRangeByte_2) (fun v1 h2 => ?_)
  refine vv_iload_n (pc := 5) X (kf := 2) (i := 2) rfl 2 rfl dJ15_copyOfRangeByte_5 ?_
  refine vv_iload_n (pc := 6) X (kf := 1) (i := 1) rfl 1 rfl dJ15_copyOfRangeByte_6 ?_
  refine vv_isub (pc := 7) X dJ15_copyOfRangeByte_7 ?_
  refine vv_istore_n (pc := 8) (lv' := [(3, LI (a3 - a2)), (0, LR a1), (1, LI a2), (2, LI a3)]) X (kf := 3) (i := 3) rfl (by decide) rfl dJ15_copyOfRangeByte_8 ?_
  refine vv_iload_n (pc := 9) X (kf := 3) (i := 3) rfl 0 rfl dJ15_copyOfRangeByte_9 ?_
  refine vv_newbyte (pc := 10) X dJ15_copyOfRangeByte_10 (fun v3 h4 => ?_)
  refine vv_astore (pc := 12) (lv' := [(4, LR v3), (3, LI (a3 - a2)), (0, LR a1), (1, LI a2), (2, LI a3)]) X (by decide) rfl dJ15_copyOfRangeByte_12 ?_
  refine vv_aload_n (pc := 14) X (kf := 0) (i := 0) rfl 2 rfl dJ15_copyOfRangeByte_14 ?_
  refine vv_iload_n (pc := 15) X (kf := 1) (i := 1) rfl 3 rfl dJ15_copyOfRangeByte_15 ?_
  refine vv_aload (pc := 16) X 0 rfl dJ15_copyOfRangeByte_16 ?_
  refine vv_iconst (pc := 18) X dJ15_copyOfRangeByte_18 ?_
  refine vv_aload_n (pc := 19) X (kf := 0) (i := 0) rfl 2 rfl dJ15_copyOfRangeByte_19 ?_
  refine vv_alen (pc := 20) X dJ15_copyOfRangeByte_20 (fun v5 => ?_)
  refine vv_iload_n (pc := 21) X (kf := 1) (i := 1) rfl 3 rfl dJ15_copyOfRangeByte_21 ?_
  refine vv_isub (pc := 22) X dJ15_copyOfRangeByte_22 ?_
  refine vv_iload_n (pc := 23) X (kf := 3) (i := 3) rfl 1 rfl dJ15_copyOfRangeByte_23 ?_
  refine vv_callI (pc := 24) (rest := [LI 0, LR v3, LI a2, LR a1]) (by rfl) (fun r8 k8 e8 => zz_callS X (m_J14_min (hlM X) _ _ _ _ _ e8) q391 q392 q149 q393 nh_J14 rfl (by decide) (by decide) (Nat.le_of_ble_eq_true rfl) dJ15_copyOfRangeByte_24) (fun v6 h7 => ?_)
  refine vv_arraycopy (pc := 27) X q394 q396 q395 q151 (by decide) (by decide) (Nat.le_of_ble_eq_true rfl) dJ15_copyOfRangeByte_27 (fun h8 => ?_)
  refine vv_aload (pc := 30) X 0 rfl dJ15_copyOfRangeByte_30 ?_
  exact vv_aretA X rfl rfl dJ15_copyOfRangeByte_32
theorem m_J15_copyOfRangeByte {l : Launch} (hl : l.stackTraces = false) {G : va_G} (a1 : Option Nat) (a2 : Int) (a3 : Int) (h : HP) : ∀ r hf, f_J15_copyOfRangeByte a1 a2 a3 h = some (r, hf) → Ct l yJ15_copyOfRangeByte (ws_ yJ15_copyOfRangeByte cJ15_copyOfRangeByte 5 (some (.array .byte))) 1 100 G h [va_rf a1, .int (iI a2), .int (iI a3)] (jR r) hf :=
  zz_ofW hl (by decide +kernel) (lv := [(0, LR a1), (1, LI a2), (2, LI a3)]) (by simp [lv_args, lvL, lvV, zz_rfc, zz_rfs, zz_ci, zz_cr, zz_cj, zz_cf, zz_cd]) (by simp [lg_sl, zz_rfc, zz_ci, zz_cr, zz_cj, zz_cf, zz_cd]) (fun _ X => A_J15_copyOfRangeByte X a1 a2 a3 h)
-- J15_copyOfRange java/util/Arrays.copyOfRange([BII)[B
noncomputable def b_J15_copyOfRange_10 (x0 : Option Nat) (x1 : Int) (x2 : Int) (h : HP) : Option ((Option Nat) × HP) :=
  hb (f_J15_copyOfRangeByte x0 x1 x2 h) fun v1 h2 =>
  some (v1, h2)
theorem B_J15_copyOfRange_10 {M : hp_M} {G : va_G} {h0 : HP} (X : hp_X M G h0 "java/util/Arrays" "copyOfRange" cJ15_copyOfRange 3 (some (.array .byte)) [] 2 132) (x0 : Option Nat) (x1 : Int) (x2 : Int) (h : HP) : vv M G h0 3 (hp_End M G h0) jR h 10 [(0, LR x0), (1, LI x1), (2, LI x2)] [] (b_J15_copyOfRange_10 x0 x1 x2 h) := by
  unfold b_J15_copyOfRange_10
  refine vv_aload_n (pc := 10) X (kf := 0) (i := 0) rfl 0 rfl dJ15_copyOfRange_10 ?_
  refine vv_iload_n (pc := 11) X (kf := 1) (i := 1) rfl 1 rfl dJ15_copyOfRange_11 ?_
  refine vv_iload_n (pc := 12) X (kf := 2) (i := 2) rfl 2 rfl dJ15_copyOfRange_12 ?_
  refine vv_callR (pc := 13) (rest := []) (by rfl) (fun r8 k8 e8 => zz_callS X (m_J15_copyOfRangeByte (hlM X) _ _ _ _ _ _ e8) q526 q527 q150 q528 nh_J15 rfl (by decide) (by decide) (Nat.le_of_ble_eq_true rfl) dJ15_copyOfRange_13) (fun v1 h2 => ?_)
  exact vv_aretA X rfl rfl dJ15_copyOfRange_16
noncomputable def f_J15_copyOfRange (a1 : Option Nat) (a2 : Int) (a3 : Int) (h : HP) : Option ((Option Nat) × HP) :=
  iEQ a2 0
    ((alen h a1).bind fun v3 =>
    iEQ a3 v3
      (hb (clB h a1) fun v4 h5 =>
      (chkA h5 v4 .byte).bind fun _ =>
      some (v4, h5))
      (b_J15_copyOfRange_10 a1 a2 a3 h))
    (b_J15_copyOfRange_10 a1 a2 a3 h)
theorem A_J15_copyOfRange {M : hp_M} {G : va_G} {h0 : HP} (X : hp_X M G h0 "java/util/Arrays" "copyOfRange" cJ15_copyOfRange 3 (some (.array .byte)) [] 2 132) (a1 : Option Nat) (a2 : Int) (a3 : Int) (h : HP) : vv M G h0 3 (hp_End M G h0) jR h 0 [(0, LR a1), (1, LI a2), (2, LI a3)] [] (f_J15_copyOfRange a1 a2 a3 h) := by
  unfold f_J15_copyOfRange
  refine vv_iload_n (pc := 0) X (kf := 1) (i := 1) rfl 1 rfl dJ15_copyOfRange_0 ?_
  refine vv_if_ne (pc := 1) (tgt := 10) X dJ15_copyOfRange_1 rfl ?_ ?_
  · exact B_J15_copyOfRange_10 X _ _ _ _
  · refine vv_iload_n (pc := 4) X (kf := 2) (i := 2) rfl 2 rfl dJ15_copyOfRange_4 ?_
    refine vv_aload_n (pc := 5) X (kf := 0) (i := 0) rfl 0 rfl dJ15_copyOfRange_5 ?_
    refine vv_alen (pc := 6) X dJ15_copyOfRange_6 (fun v3 => ?_)
    refine vv_icmp_eq (pc := 7) (tgt := 17) X dJ15_copyOfRange_7 rfl ?_ ?_
    · refine vv_aload_n (pc := 17) X (kf := 0) (i := 0) rfl 0 rfl dJ15_copyOfRange_17 ?_
      refine vv_cloneB (pc := 18) X q384 (by decide) (by decide) (Nat.le_of_ble_eq_true rfl) dJ15_copyOfRange_18 (fun v4 h5 => ?_)
      refine vv_checkcastB (pc := 21) X q390 dJ15_copyOfRange_21 ?_
      exact vv_aretA X rfl rfl dJ15_copyOfRange_24
    · exact B_J15_copyOfRange_10 X _ _ _ _
theorem m_J15_copyOfRange {l : Launch} (hl : l.stackTraces = false) {G : va_G} (a1 : Option Nat) (a2 : Int) (a3 : Int) (h : HP) : ∀ r hf, f_J15_copyOfRange a1 a2 a3 h = some (r, hf) → Ct l yJ15_copyOfRange (ws_ yJ15_copyOfRange cJ15_copyOfRange 3 (some (.array .byte))) 2 132 G h [va_rf a1, .int (iI a2), .int (iI a3)] (jR r) hf :=
  zz_ofW hl (by decide +kernel) (lv := [(0, LR a1), (1, LI a2), (2, LI a3)]) (by simp [lv_args, lvL, lvV, zz_rfc, zz_rfs, zz_ci, zz_cr, zz_cj, zz_cf, zz_cd]) (by simp [lg_sl, zz_rfc, zz_ci, zz_cr, zz_cj, zz_cf, zz_cd]) (fun _ X => A_J15_copyOfRange X a1 a2 a3 h)
