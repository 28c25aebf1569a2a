/-! STAGE 1c: functions and contracts (printed by gen/mkfuncs.py). -/
set_option maxRecDepth 100000
set_option linter.unusedVariables false
-- J9_append java/lang/AbstractStringBuilder.append(Ljava/lang/String;)Ljava/lang/AbstractStringBuilder;
noncomputable def f_J9_append (a0 : Nat) (a1 : Option Nat) (h : HP) : Option ((Option Nat) × HP) :=
  rNU a1
    (none)
    ((rcv h a1 [26]).bind fun b3 =>
    hb (f_J11_length b3 h) fun v1 h2 =>
    (rdI h2 (some a0) [25] 3).bind fun v5 =>
    (rcv h2 (some a0) [25]).bind fun b8 =>
    hb (f_J9_ensureCapacityInternal b8 (v5 + v1) h2) fun _ h7 =>
    (rdI h7 (some a0) [25] 3).bind fun v10 =>
    (rcv h7 (some a0) [25]).bind fun b13 =>
    hb (f_J9_putStringAt b13 v10 a1 h7) fun _ h12 =>
    (rdI h12 (some a0) [25] 3).bind fun v15 =>
    (wrI h12 (some a0) [25] 3 (v15 + v1)).bind fun h16 =>
    some ((some a0), h16))
theorem A_J9_append {M : hp_M} {G : va_G} {h0 : HP} (X : hp_X M G h0 "java/lang/AbstractStringBuilder" "append" cJ9_append 3 (some (.object "java/lang/AbstractStringBuilder")) [] 4 180) (a0 : Nat) (a1 : Option Nat) (h : HP) : vv M G h0 3 (hp_End M G h0) jR h 0 [(0, LR (some a0)), (1, LR a1)] [] (f_J9_append a0 a1 h) := by
  unfold f_J9_append
  refine vv_aload_n (pc := 0) X (kf := 1) (i := 1) rfl 1 rfl dJ9_append_0 ?_
  refine vv_ifnonnull (pc := 1) (tgt := 9) X dJ9_append_1 rfl ?_ ?_
  · refine vv_aload_n (pc := 9) X (kf := 1) (i := 1) rfl 1 rfl dJ9_append_9 ?_
    refine vv_rcv (fun b3 t9 c9 fs9 e4 g9 k9 => ?_)
    cases List.mem_singleton.mp k9
    refine vv_callI (pc := 10) (rest := []) (by rw [e4]; rfl) (fun r8 k8 e8 => zz_callV X (m_J11_length (hlM X) _ _ _ _ e8) g9 rfl rfl q428 q429 q430 q146 q431 nh_J11 rfl (by decide) (by decide) (Nat.le_of_ble_eq_true rfl) dJ9_append_10) (fun v1 h2 => ?_)
    refine vv_istore_n (pc := 13) (lv' := [(2, LI v1), (0, LR (some a0)), (1, LR a1)]) X (kf := 2) (i := 2) rfl (by decide) rfl dJ9_append_13 ?_
    refine vv_aload_n (pc := 14) X (kf := 0) (i := 0) rfl 1 rfl dJ9_append_14 ?_
    refine vv_aload_n (pc := 15) X (kf := 0) (i := 0) rfl 1 rfl dJ9_append_15 ?_
    refine vv_getI (pc := 16) X (fun _ z => by cases List.mem_singleton.mp z; exact fl_J9_79_25) dJ9_append_16 (fun v5 => ?_)
    refine vv_iload_n (pc := 19) X (kf := 2) (i := 2) rfl 0 rfl dJ9_append_19 ?_
    refine vv_iadd (pc := 20) X dJ9_append_20 ?_
    refine vv_rcv (fun b8 t9 c9 fs9 e9 g9 k9 => ?_)
    cases List.mem_singleton.mp k9
    refine vv_callV (pc := 21) (rest := []) (by rw [e9]; rfl) (fun r8 k8 e8 => zz_callP X (m_J9_ensureCapacityInternal (hlM X) _ _ _ _ _ e8) g9 rfl q362 q364 q363 q512 rfl q144 q365 nh_J9 rfl (by decide) (by decide) (Nat.le_of_ble_eq_true rfl) dJ9_append_21) (fun v6 h7 => ?_)
    refine vv_aload_n (pc := 24) X (kf := 0) (i := 0) rfl 1 rfl dJ9_append_24 ?_
    refine vv_aload_n (pc := 25) X (kf := 0) (i := 0) rfl 1 rfl dJ9_append_25 ?_
    refine vv_getI (pc := 26) X (fun _ z => by cases List.mem_singleton.mp z; exact fl_J9_79_25) dJ9_append_26 (fun v10 => ?_)
    refine vv_aload_n (pc := 29) X (kf := 1) (i := 1) rfl 2 rfl dJ9_append_29 ?_
    refine vv_rcv (fun b13 t9 c9 fs9 e14 g9 k9 => ?_)
    cases List.mem_singleton.mp k9
    refine vv_callV (pc := 30) (rest := []) (by rw [e14]; rfl) (fun r8 k8 e8 => zz_callP X (m_J9_putStringAt (hlM X) _ _ _ _ _ _ e8) g9 rfl q437 q439 q438 q512 rfl q144 q440 nh_J9 rfl (by decide) (by decide) (Nat.le_of_ble_eq_true rfl) dJ9_append_30) (fun v11 h12 => ?_)
    refine vv_aload_n (pc := 33) X (kf := 0) (i := 0) rfl 1 rfl dJ9_append_33 ?_
    refine vv_dup (pc := 34) X rfl dJ9_append_34 ?_
    refine vv_getI (pc := 35) X (fun _ z => by cases List.mem_singleton.mp z; exact fl_J9_79_25) dJ9_append_35 (fun v15 => ?_)
    refine vv_iload_n (pc := 38) X (kf := 2) (i := 2) rfl 0 rfl dJ9_append_38 ?_
    refine vv_iadd (pc := 39) X dJ9_append_39 ?_
    refine vv_putI (pc := 40) (fin := false) X (fun _ z => by cases List.mem_singleton.mp z; exact fl_J9_79_25) (fun z => nomatch z) (fun z => nomatch z) dJ9_append_40 (fun h16 => ?_)
    refine vv_aload_n (pc := 43) X (kf := 0) (i := 0) rfl 1 rfl dJ9_append_43 ?_
    exact vv_aretO X rfl rfl dJ9_append_44
  · refine vv_aload_n (pc := 4) X (kf := 0) (i := 0) rfl 0 rfl dJ9_append_4 ?_
    exact vv_none
theorem m_J9_append {l : Launch} (hl : l.stackTraces = false) {G : va_G} (a0 : Nat) (a1 : Option Nat) (h : HP) : ∀ r hf, f_J9_append a0 a1 h = some (r, hf) → Ct l yJ9_append (ws_ yJ9_append cJ9_append 3 (some (.object "java/lang/AbstractStringBuilder"))) 4 180 G h [.ref a0, va_rf a1] (jR r) hf :=
  zz_ofW hl (by decide +kernel) (lv := [(0, LR (some a0)), (1, LR a1)]) (by simp [lv_args, lvL, lvV, zz_rfc, zz_rfs, zz_ci, zz_cr, zz_cj, zz_cf, zz_cd]) (by simp [lg_sl, zz_rfc, zz_ci, zz_cr, zz_cj, zz_cf, zz_cd]) (fun _ X => A_J9_append X a0 a1 h)
-- J10_append java/lang/StringBuilder.append(Ljava/lang/String;)Ljava/lang/StringBuilder;
noncomputable def f_J10_append (a0 : Nat) (a1 : Option Nat) (h : HP) : Option ((Option Nat) × HP) :=
  (rcv h (some a0) [25]).bind fun b4 =>
  hb (f_J9_append b4 a1 h) fun v1 h2 =>
  some ((some a0), h2)
theorem A_J10_append {M : hp_M} {G : va_G} {h0 : HP} (X : hp_X M G h0 "java/lang/StringBuilder" "append" cJ10_append 2 (some (.object "java/lang/StringBuilder")) [] 5 210) (a0 : Nat) (a1 : Option Nat) (h : HP) : vv M G h0 2 (hp_End M G h0) jR h 0 [(0, LR (some a0)), (1, LR a1)] [] (f_J10_append a0 a1 h) := by
  unfold f_J10_append
  refine vv_aload_n (pc := 0) X (kf := 0) (i := 0) rfl 0 rfl dJ10_append_0 ?_
  refine vv_aload_n (pc := 1) X (kf := 1) (i := 1) rfl 1 rfl dJ10_append_1 ?_
  refine vv_rcv (fun b4 t9 c9 fs9 e5 g9 k9 => ?_)
  cases List.mem_singleton.mp k9
  refine vv_callR (pc := 2) (rest := []) (by rw [e5]; rfl) (fun r8 k8 e8 => zz_callSU X (m_J9_append (hlM X) _ _ _ _ _ e8) g9 rfl q355 q4088 q348 q356 q144 q357 (by decide) rfl (by decide) (by decide) (Nat.le_of_ble_eq_true rfl) dJ10_append_2) (fun v1 h2 => ?_)
  refine vv_pop (pc := 5) X rfl dJ10_append_5 ?_
  refine vv_aload_n (pc := 6) X (kf := 0) (i := 0) rfl 0 rfl dJ10_append_6 ?_
  exact vv_aretO X rfl rfl dJ10_append_7
theorem m_J10_append {l : Launch} (hl : l.stackTraces = false) {G : va_G} (a0 : Nat) (a1 : Option Nat) (h : HP) : ∀ r hf, f_J10_append a0 a1 h = some (r, hf) → Ct l yJ10_append (ws_ yJ10_append cJ10_append 2 (some (.object "java/lang/StringBuilder"))) 5 210 G h [.ref a0, va_rf a1] (jR r) hf :=
  zz_ofW hl (by decide +kernel) (lv := [(0, LR (some a0)), (1, LR a1)]) (by simp [lv_args, lvL, lvV, zz_rfc, zz_rfs, zz_ci, zz_cr, zz_cj, zz_cf, zz_cd]) (by simp [lg_sl, zz_rfc, zz_ci, zz_cr, zz_cj, zz_cf, zz_cd]) (fun _ X => A_J10_append X a0 a1 h)
-- X1_report RenamedWords.report()I
noncomputable def c_X1_report_87 (r87 : Option Nat → Option Nat → Option Nat → HP → Option ((Int) × HP)) (x0 : Option Nat) (x1 : Option Nat) (x2 : Option Nat) (h : HP) : Option ((Int) × HP) :=
  (rcv h x2 [21]).bind fun b18 =>
  hb (f_X26_hasNext b18 h) fun v16 h17 =>
  iEQ v16 0
    ((rcv h17 x1 [25]).bind fun b22 =>
    hb (f_J10_toString b22 h17) fun v20 h21 =>
    (wrR h21 x0 [0] 8 v20).bind fun h24 =>
    (rdR h24 x0 [0] 8).bind fun v25 =>
    (rcv h24 v25 [26]).bind fun b28 =>
    hb (f_J11_length b28 h24) fun v26 h27 =>
    some (v26, h27))
    ((rcv h17 x2 [21]).bind fun b32 =>
    hb (f_X26_next b32 h17) fun v30 h31 =>
    (chk h31 v30 [22]).bind fun _ =>
    (rcv h31 x1 [25]).bind fun b36 =>
    hb (f_J10_append_3 b36 32 h31) fun v34 h35 =>
    (rdI h35 v30 [22] 1).bind fun v38 =>
    (rcv h35 v34 [25]).bind fun b41 =>
    hb (f_J10_append_2 b41 v38 h35) fun v39 h40 =>
    (rcv h40 v39 [25]).bind fun b45 =>
    hb (f_J10_append_3 b45 58 h40) fun v43 h44 =>
    (rdR h44 x0 [0] 0).bind fun v47 =>
    (rdR h44 v47 [1] 1).bind fun v48 =>
    (rdR h44 v48 [2] 1).bind fun v49 =>
    (rdI h44 v30 [22] 0).bind fun v50 =>
    (rcv h44 v49 [24]).bind fun b53 =>
    hb (f_J4_get b53 v50 h44) fun v51 h52 =>
    (chk h52 v51 [26]).bind fun _ =>
    (rcv h52 v43 [25]).bind fun b57 =>
    hb (f_J10_append b57 v51 h52) fun v55 h56 =>
    r87 x0 x1 x2 h56)
noncomputable def b_X1_report_87 : Option Nat → Option Nat → Option Nat → HP → Option ((Int) × HP) := fx (fun _ _ _ _ => none) (c_X1_report_87) FU
theorem C_X1_report_87 {M : hp_M} {G : va_G} {h0 : HP} (X : hp_X M G h0 "RenamedWords" "report" cX1_report 4 (some .int) [] 6 251) (r87 : Option Nat → Option Nat → Option Nat → HP → Option ((Int) × HP)) (hr87 : ∀ (y0 : Option Nat) (y1 : Option Nat) (y2 : Option Nat) (h : HP), vv M G h0 4 (hp_End M G h0) jI h 87 [(0, LR y0), (1, LR y1), (2, LR y2)] [] (r87 y0 y1 y2 h)) (x0 : Option Nat) (x1 : Option Nat) (x2 : Option Nat) (h : HP) : vv M G h0 4 (hp_End M G h0) jI h 87 [(0, LR x0), (1, LR x1), (2, LR x2)] [] (c_X1_report_87 r87 x0 x1 x2 h) := by
  unfold c_X1_report_87
  refine vv_aload_n (pc := 87) X (kf := 2) (i := 2) rfl 2 rfl dX1_report_87 ?_
  refine vv_rcv (fun b18 t9 c9 fs9 e19 g9 k9 => ?_)
  cases List.mem_singleton.mp k9
  refine vv_callI (pc := 88) (rest := []) (by rw [e19]; rfl) (fun r8 k8 e8 => zz_callF X (m_X26_hasNext (hlM X) _ _ _ _ e8) g9 rfl q2877 (List.mem_of_getElem? (i := 5) rfl) q2177 q2175 q191 q2179 nh_xjava_util_Iterator rfl (by decide) (by decide) (Nat.le_of_ble_eq_true rfl) dX1_report_88) (fun v16 h17 => ?_)
  refine vv_if_eq (pc := 93) (tgt := 153) X dX1_report_93 rfl ?_ ?_
  · refine vv_aload_n (pc := 153) X (kf := 0) (i := 0) rfl 0 rfl dX1_report_153 ?_
    refine vv_aload_n (pc := 154) X (kf := 1) (i := 1) rfl 1 rfl dX1_report_154 ?_
    refine vv_rcv (fun b22 t9 c9 fs9 e23 g9 k9 => ?_)
    cases List.mem_singleton.mp k9
    refine vv_callR (pc := 155) (rest := [LR x0]) (by rw [e23]; rfl) (fun r8 k8 e8 => zz_callV X (m_J10_toString (hlM X) _ _ _ _ e8) g9 rfl rfl q2978 q497 q498 q145 q499 nh_J10 rfl (by decide) (by decide) (Nat.le_of_ble_eq_true rfl) dX1_report_155) (fun v20 h21 => ?_)
    refine vv_putR (pc := 158) (ty9 := (.object "java/lang/String")) (fin := false) X (fun _ z => by cases List.mem_singleton.mp z; exact fl_X1_69_0) (fun z => nomatch z) (fun z => nomatch z) (by decide +kernel) rfl dX1_report_158 (fun h24 => ?_)
    refine vv_aload_n (pc := 161) X (kf := 0) (i := 0) rfl 0 rfl dX1_report_161 ?_
    refine vv_getR (pc := 162) X (fun _ z => by cases List.mem_singleton.mp z; exact fl_X1_69_0) dX1_report_162 (fun v25 => ?_)
    refine vv_rcv (fun b28 t9 c9 fs9 e29 g9 k9 => ?_)
    cases List.mem_singleton.mp k9
    refine vv_callI (pc := 165) (rest := []) (by rw [e29]; rfl) (fun r8 k8 e8 => zz_callV X (m_J11_length (hlM X) _ _ _ _ e8) g9 rfl rfl q2979 q429 q430 q146 q431 nh_J11 rfl (by decide) (by decide) (Nat.le_of_ble_eq_true rfl) dX1_report_165) (fun v26 h27 => ?_)
    exact vv_iretI X rfl rfl dX1_report_168
  · refine vv_aload_n (pc := 96) X (kf := 2) (i := 2) rfl 2 rfl dX1_report_96 ?_
    refine vv_rcv (fun b32 t9 c9 fs9 e33 g9 k9 => ?_)
    cases List.mem_singleton.mp k9
    refine vv_callR (pc := 97) (rest := []) (by rw [e33]; rfl) (fun r8 k8 e8 => zz_callF X (m_X26_next (hlM X) _ _ _ _ e8) g9 rfl q2879 (List.mem_of_getElem? (i := 6) rfl) q2209 q2207 q191 q2211 nh_xjava_util_Iterator rfl (by decide) (by decide) (Nat.le_of_ble_eq_true rfl) dX1_report_97) (fun v30 h31 => ?_)
    refine vv_checkcast (pc := 102) X ⟨q2880, (fun _ z => by cases List.mem_singleton.mp z; exact ⟨_, rfl, Or.inl rfl⟩)⟩ dX1_report_102 ?_
    refine vv_astore_n (pc := 105) (lv' := [(3, LR v30), (0, LR x0), (1, LR x1), (2, LR x2)]) X (kf := 3) (i := 3) rfl (by decide) rfl dX1_report_105 ?_
    refine vv_aload_n (pc := 106) X (kf := 1) (i := 1) rfl 2 rfl dX1_report_106 ?_
    refine vv_bipush (pc := 107) X (by decide) dX1_report_107 ?_
    refine vv_rcv (fun b36 t9 c9 fs9 e37 g9 k9 => ?_)
    cases List.mem_singleton.mp k9
    refine vv_callR (pc := 109) (rest := []) (by rw [e37]; rfl) (fun r8 k8 e8 => zz_callV X (m_J10_append_3 (hlM X) _ _ _ _ _ e8) g9 rfl rfl q2964 q878 q879 q145 q880 nh_J10 rfl (by decide) (by decide) (Nat.le_of_ble_eq_true rfl) dX1_report_109) (fun v34 h35 => ?_)
    refine vv_aload_n (pc := 112) X (kf := 3) (i := 3) rfl 0 rfl dX1_report_112 ?_
    refine vv_getI (pc := 113) X (fun _ z => by cases List.mem_singleton.mp z; exact fl_X1_301_22) dX1_report_113 (fun v38 => ?_)
    refine vv_rcv (fun b41 t9 c9 fs9 e42 g9 k9 => ?_)
    cases List.mem_singleton.mp k9
    refine vv_callR (pc := 116) (rest := []) (by rw [e42]; rfl) (fun r8 k8 e8 => zz_callV X (m_J10_append_2 (hlM X) _ _ _ _ _ e8) g9 rfl rfl q2965 q472 q473 q145 q474 nh_J10 rfl (by decide) (by decide) (Nat.le_of_ble_eq_true rfl) dX1_report_116) (fun v39 h40 => ?_)
    refine vv_bipush (pc := 119) X (by decide) dX1_report_119 ?_
    refine vv_rcv (fun b45 t9 c9 fs9 e46 g9 k9 => ?_)
    cases List.mem_singleton.mp k9
    refine vv_callR (pc := 121) (rest := []) (by rw [e46]; rfl) (fun r8 k8 e8 => zz_callV X (m_J10_append_3 (hlM X) _ _ _ _ _ e8) g9 rfl rfl q2964 q878 q879 q145 q880 nh_J10 rfl (by decide) (by decide) (Nat.le_of_ble_eq_true rfl) dX1_report_121) (fun v43 h44 => ?_)
    refine vv_aload_n (pc := 124) X (kf := 0) (i := 0) rfl 1 rfl dX1_report_124 ?_
    refine vv_getR (pc := 125) X (fun _ z => by cases List.mem_singleton.mp z; exact fl_X1_35_0) dX1_report_125 (fun v47 => ?_)
    refine vv_getR (pc := 128) X (fun _ z => by cases List.mem_singleton.mp z; exact fl_X1_276_1) dX1_report_128 (fun v48 => ?_)
    refine vv_getR (pc := 131) X (fun _ z => by cases List.mem_singleton.mp z; exact fl_X1_280_2) dX1_report_131 (fun v49 => ?_)
    refine vv_aload_n (pc := 134) X (kf := 3) (i := 3) rfl 0 rfl dX1_report_134 ?_
    refine vv_getI (pc := 135) X (fun _ z => by cases List.mem_singleton.mp z; exact fl_X1_306_22) dX1_report_135 (fun v50 => ?_)
    refine vv_rcv (fun b53 t9 c9 fs9 e54 g9 k9 => ?_)
    cases List.mem_singleton.mp k9
    refine vv_callR (pc := 138) (rest := [LR v43]) (by rw [e54]; rfl) (fun r8 k8 e8 => zz_callF X (m_J4_get (hlM X) _ _ _ _ _ e8) g9 rfl q2967 (List.mem_of_getElem? (i := 4) rfl) q2251 q2970 q139 q2252 nh_xjava_util_List rfl (by decide) (by decide) (Nat.le_of_ble_eq_true rfl) dX1_report_138) (fun v51 h52 => ?_)
    refine vv_checkcast (pc := 143) X ⟨q2976, (fun _ z => by cases List.mem_singleton.mp z; exact ⟨_, rfl, Or.inl rfl⟩)⟩ dX1_report_143 ?_
    refine vv_rcv (fun b57 t9 c9 fs9 e58 g9 k9 => ?_)
    cases List.mem_singleton.mp k9
    refine vv_callR (pc := 146) (rest := []) (by rw [e58]; rfl) (fun r8 k8 e8 => zz_callV X (m_J10_append (hlM X) _ _ _ _ _ e8) g9 rfl rfl q2977 q352 q353 q145 q354 nh_J10 rfl (by decide) (by decide) (Nat.le_of_ble_eq_true rfl) dX1_report_146) (fun v55 h56 => ?_)
    refine vv_pop (pc := 149) X rfl dX1_report_149 ?_
    refine vv_goto (pc := 150) (tgt := 87) X dX1_report_150 rfl ?_
    exact vv_sub [1, 2, 3] (by rfl) (hr87 _ _ _ _)
theorem B_X1_report_87 {M : hp_M} {G : va_G} {h0 : HP} (X : hp_X M G h0 "RenamedWords" "report" cX1_report 4 (some .int) [] 6 251) : ∀ (x0 : Option Nat) (x1 : Option Nat) (x2 : Option Nat) (h : HP), vv M G h0 4 (hp_End M G h0) jI h 87 [(0, LR x0), (1, LR x1), (2, LR x2)] [] (b_X1_report_87 x0 x1 x2 h) := by
  unfold b_X1_report_87
  generalize FU = n
  induction n with
  | zero => intro x0 x1 x2 h; exact vv_none
  | succ n ih => exact C_X1_report_87 X _ ih
noncomputable def b_X1_report_53 (r10 : Option Nat → Option Nat → Int → HP → Option ((Int) × HP)) (x0 : Option Nat) (x1 : Option Nat) (x2 : Int) (s0 : Int) (s1 : Option Nat) (h : HP) : Option ((Int) × HP) :=
  (rdR h x0 [0] 0).bind fun v67 =>
  (rdR h v67 [1] 0).bind fun v68 =>
  (rcv h v68 [3]).bind fun b71 =>
  hb (f_X5_at b71 x2 h) fun v69 h70 =>
  (rcv h70 s1 [25]).bind fun b75 =>
  hb (f_J10_append_3 b75 (iC (s0 + v69)) h70) fun v73 h74 =>
  r10 x0 x1 (x2 + 1) h74
theorem B_X1_report_53 {M : hp_M} {G : va_G} {h0 : HP} (X : hp_X M G h0 "RenamedWords" "report" cX1_report 4 (some .int) [] 6 251) (r10 : Option Nat → Option Nat → Int → HP → Option ((Int) × HP)) (hr10 : ∀ (y0 : Option Nat) (y1 : Option Nat) (y2 : Int) (h : HP), vv M G h0 4 (hp_End M G h0) jI h 10 [(0, LR y0), (1, LR y1), (2, LI y2)] [] (r10 y0 y1 y2 h)) (x0 : Option Nat) (x1 : Option Nat) (x2 : Int) (s0 : Int) (s1 : Option Nat) (h : HP) : vv M G h0 4 (hp_End M G h0) jI h 53 [(0, LR x0), (1, LR x1), (2, LI x2)] [LI s0, LR s1] (b_X1_report_53 r10 x0 x1 x2 s0 s1 h) := by
  unfold b_X1_report_53
  refine vv_aload_n (pc := 53) X (kf := 0) (i := 0) rfl 0 rfl dX1_report_53 ?_
  refine vv_getR (pc := 54) X (fun _ z => by cases List.mem_singleton.mp z; exact fl_X1_35_0) dX1_report_54 (fun v67 => ?_)
  refine vv_getR (pc := 57) X (fun _ z => by cases List.mem_singleton.mp z; exact fl_X1_79_1) dX1_report_57 (fun v68 => ?_)
  refine vv_iload_n (pc := 60) X (kf := 2) (i := 2) rfl 2 rfl dX1_report_60 ?_
  refine vv_rcv (fun b71 t9 c9 fs9 e72 g9 k9 => ?_)
  cases List.mem_singleton.mp k9
  refine vv_callI (pc := 61) (rest := [LI s0, LR s1]) (by rw [e72]; rfl) (fun r8 k8 e8 => zz_callV X (m_X5_at (hlM X) _ _ _ _ _ e8) g9 rfl rfl q2963 q2635 q4111 q157 q2636 nh_X5 rfl (by decide) (by decide) (Nat.le_of_ble_eq_true rfl) dX1_report_61) (fun v69 h70 => ?_)
  refine vv_iadd (pc := 64) X dX1_report_64 ?_
  refine vv_i2c (pc := 65) X dX1_report_65 ?_
  refine vv_rcv (fun b75 t9 c9 fs9 e76 g9 k9 => ?_)
  cases List.mem_singleton.mp k9
  refine vv_callR (pc := 66) (rest := []) (by rw [e76]; rfl) (fun r8 k8 e8 => zz_callV X (m_J10_append_3 (hlM X) _ _ _ _ _ e8) g9 rfl rfl q2964 q878 q879 q145 q880 nh_J10 rfl (by decide) (by decide) (Nat.le_of_ble_eq_true rfl) dX1_report_66) (fun v73 h74 => ?_)
  refine vv_pop (pc := 69) X rfl dX1_report_69 ?_
  refine vv_iinc (pc := 70) (lv' := [(2, LI (x2 + 1)), (0, LR x0), (1, LR x1)]) X 2 rfl (by decide) rfl dX1_report_70 ?_
  refine vv_goto (pc := 73) (tgt := 10) X dX1_report_73 rfl ?_
  exact vv_sub [1, 2, 0] (by rfl) (hr10 _ _ _ _)
noncomputable def c_X1_report_10 (r10 : Option Nat → Option Nat → Int → HP → Option ((Int) × HP)) (x0 : Option Nat) (x1 : Option Nat) (x2 : Int) (h : HP) : Option ((Int) × HP) :=
  (rdR h x0 [0] 0).bind fun v7 =>
  (rdR h v7 [1] 0).bind fun v8 =>
  (rdI h v8 [3] 3).bind fun v9 =>
  iLE v9 x2
    ((rdR h x0 [0] 0).bind fun v10 =>
    (rdR h v10 [1] 3).bind fun v11 =>
    (rcv h v11 [4]).bind fun b14 =>
    hb (f_X6_iterator b14 h) fun v12 h13 =>
    b_X1_report_87 x0 x1 v12 h13)
    ((rdR h x0 [0] 0).bind fun v59 =>
    (rdR h v59 [1] 0).bind fun v60 =>
    (rdR h x0 [0] 0).bind fun v61 =>
    (rdI h v61 [1] 7).bind fun v62 =>
    (rcv h v60 [3]).bind fun b65 =>
    hb (f_X4_isFirm_2 b65 x2 v62 h) fun v63 h64 =>
    iEQ v63 0
      (b_X1_report_53 r10 x0 x1 x2 65 x1 h64)
      (b_X1_report_53 r10 x0 x1 x2 97 x1 h64))
noncomputable def b_X1_report_10 : Option Nat → Option Nat → Int → HP → Option ((Int) × HP) := fx (fun _ _ _ _ => none) (c_X1_report_10) FU
theorem C_X1_report_10 {M : hp_M} {G : va_G} {h0 : HP} (X : hp_X M G h0 "RenamedWords" "report" cX1_report 4 (some .int) [] 6 251) (r10 : Option Nat → Option Nat → Int → HP → Option ((Int) × HP)) (hr10 : ∀ (y0 : Option Nat) (y1 : Option Nat) (y2 : Int) (h : HP), vv M G h0 4 (hp_End M G h0) jI h 10 [(0, LR y0), (1, LR y1), (2, LI y2)] [] (r10 y0 y1 y2 h)) (x0 : Option Nat) (x1 : Option Nat) (x2 : Int) (h : HP) : vv M G h0 4 (hp_End M G h0) jI h 10 [(0, LR x0), (1, LR x1), (2, LI x2)] [] (c_X1_report_10 r10 x0 x1 x2 h) := by
  unfold c_X1_report_10
  refine vv_iload_n (pc := 10) X (kf := 2) (i := 2) rfl 2 rfl dX1_report_10 ?_
  refine vv_aload_n (pc := 11) X (kf := 0) (i := 0) rfl 0 rfl dX1_report_11 ?_
  refine vv_getR (pc := 12) X (fun _ z => by cases List.mem_singleton.mp z; exact fl_X1_35_0) dX1_report_12 (fun v7 => ?_)
  refine vv_getR (pc := 15) X (fun _ z => by cases List.mem_singleton.mp z; exact fl_X1_79_1) dX1_report_15 (fun v8 => ?_)
  refine vv_getI (pc := 18) X (fun _ z => by cases List.mem_singleton.mp z; exact fl_X1_83_3) dX1_report_18 (fun v9 => ?_)
  refine vv_icmp_ge (pc := 21) (tgt := 76) X dX1_report_21 rfl ?_ ?_
  · refine vv_aload_n (pc := 76) X (kf := 0) (i := 0) rfl 0 rfl dX1_report_76 ?_
    refine vv_getR (pc := 77) X (fun _ z => by cases List.mem_singleton.mp z; exact fl_X1_35_0) dX1_report_77 (fun v10 => ?_)
    refine vv_getR (pc := 80) X (fun _ z => by cases List.mem_singleton.mp z; exact fl_X1_196_1) dX1_report_80 (fun v11 => ?_)
    refine vv_rcv (fun b14 t9 c9 fs9 e15 g9 k9 => ?_)
    cases List.mem_singleton.mp k9
    refine vv_callR (pc := 83) (rest := []) (by rw [e15]; rfl) (fun r8 k8 e8 => zz_callV X (m_X6_iterator (hlM X) _ _ _ _ e8) g9 rfl rfl q2875 q2148 q2149 q158 q2150 nh_X6 rfl (by decide) (by decide) (Nat.le_of_ble_eq_true rfl) dX1_report_83) (fun v12 h13 => ?_)
    refine vv_astore_n (pc := 86) (lv' := [(2, LR v12), (0, LR x0), (1, LR x1)]) X (kf := 2) (i := 2) rfl (by decide) rfl dX1_report_86 ?_
    exact vv_sub [1, 2, 0] (by rfl) (B_X1_report_87 X _ _ _ _)
  · refine vv_aload_n (pc := 24) X (kf := 1) (i := 1) rfl 1 rfl dX1_report_24 ?_
    refine vv_aload_n (pc := 25) X (kf := 0) (i := 0) rfl 0 rfl dX1_report_25 ?_
    refine vv_getR (pc := 26) X (fun _ z => by cases List.mem_singleton.mp z; exact fl_X1_35_0) dX1_report_26 (fun v59 => ?_)
    refine vv_getR (pc := 29) X (fun _ z => by cases List.mem_singleton.mp z; exact fl_X1_79_1) dX1_report_29 (fun v60 => ?_)
    refine vv_iload_n (pc := 32) X (kf := 2) (i := 2) rfl 2 rfl dX1_report_32 ?_
    refine vv_aload_n (pc := 33) X (kf := 0) (i := 0) rfl 0 rfl dX1_report_33 ?_
    refine vv_getR (pc := 34) X (fun _ z => by cases List.mem_singleton.mp z; exact fl_X1_35_0) dX1_report_34 (fun v61 => ?_)
    refine vv_getI (pc := 37) X (fun _ z => by cases List.mem_singleton.mp z; exact fl_X1_189_1) dX1_report_37 (fun v62 => ?_)
    refine vv_rcv (fun b65 t9 c9 fs9 e66 g9 k9 => ?_)
    cases List.mem_singleton.mp k9
    refine vv_callI (pc := 40) (rest := [LR x1]) (by rw [e66]; rfl) (fun r8 k8 e8 => zz_callU X (m_X4_isFirm_2 (hlM X) _ _ _ _ _ _ e8) g9 rfl q2960 q2961 (va_Decl.of (X.1.2.2.2.2 _ q2625) (X.1.2.2.2.2 _ q2630)) (by decide) q2625 q2962 q156 q2630 rfl (by decide) (by decide) (Nat.le_of_ble_eq_true rfl) dX1_report_40) (fun v63 h64 => ?_)
    refine vv_if_eq (pc := 43) (tgt := 51) X dX1_report_43 rfl ?_ ?_
    · refine vv_bipush (pc := 51) X (by decide) dX1_report_51 ?_
      exact B_X1_report_53 X r10 hr10 _ _ _ _ _ _
    · refine vv_bipush (pc := 46) X (by decide) dX1_report_46 ?_
      refine vv_goto (pc := 48) (tgt := 53) X dX1_report_48 rfl ?_
      exact B_X1_report_53 X r10 hr10 _ _ _ _ _ _
theorem B_X1_report_10 {M : hp_M} {G : va_G} {h0 : HP} (X : hp_X M G h0 "RenamedWords" "report" cX1_report 4 (some .int) [] 6 251) : ∀ (x0 : Option Nat) (x1 : Option Nat) (x2 : Int) (h : HP), vv M G h0 4 (hp_End M G h0) jI h 10 [(0, LR x0), (1, LR x1), (2, LI x2)] [] (b_X1_report_10 x0 x1 x2 h) := by
  unfold b_X1_report_10
  generalize FU = n
  induction n with
  | zero => intro x0 x1 x2 h; exact vv_none
  | succ n ih => exact C_X1_report_10 X _ ih
noncomputable def f_X1_report (a0 : Nat) (h : HP) : Option ((Int) × HP) :=
  hb (nwO h (hp_n h + 2) 25 [.inr (.inl none), .inl 0, .inl 0, .inl 0] 4) fun v1 h2 =>
  (v1).bind fun b5 =>
  hb (f_J10_init b5 h2) fun _ h4 =>
  b_X1_report_10 (some a0) v1 0 h4
theorem A_X1_report {M : hp_M} {G : va_G} {h0 : HP} (X : hp_X M G h0 "RenamedWords" "report" cX1_report 4 (some .int) [] 6 251) (a0 : Nat) (h : HP) : vv M G h0 4 (hp_End M G h0) jI h 0 [(0, LR (some a0))] [] (f_X1_report a0 h) := by
  unfold f_X1_report
  refine vv_new (pc := 0) X tyJ10 rfl in_J10 tyJ10_ok q2958 q319 q145 ndJ10 (by decide) dX1_report_0 (fun v1 h2 => ?_)
  refine vv_dup (pc := 3) X rfl dX1_report_3 ?_
  refine vv_bnd (fun b5 e6 => ?_)
  refine vv_callV (pc := 4) (rest := [LR v1]) (by rw [e6]; rfl) (fun r8 k8 e8 => zz_callI X (m_J10_init (hlM X) _ _ _ _ e8) q2959 q321 q145 q322 rfl nh_J10 rfl (by decide) (by decide) (Nat.le_of_ble_eq_true rfl) dX1_report_4) (fun v3 h4 => ?_)
  refine vv_astore_n (pc := 7) (lv' := [(1, LR v1), (0, LR (some a0))]) X (kf := 1) (i := 1) rfl (by decide) rfl dX1_report_7 ?_
  refine vv_iconst (pc := 8) X dX1_report_8 ?_
  refine vv_istore_n (pc := 9) (lv' := [(2, LI 0), (1, LR v1), (0, LR (some a0))]) X (kf := 2) (i := 2) rfl (by decide) rfl dX1_report_9 ?_
  exact vv_sub [2, 1, 0] (by rfl) (B_X1_report_10 X _ _ _ _)
theorem m_X1_report {l : Launch} (hl : l.stackTraces = false) {G : va_G} (a0 : Nat) (h : HP) : ∀ r hf, f_X1_report a0 h = some (r, hf) → Ct l yX1_report (ws_ yX1_report cX1_report 4 (some .int)) 6 251 G h [.ref a0] (jI r) hf :=
  zz_ofW hl (by decide +kernel) (lv := [(0, LR (some a0))]) (by simp [lv_args, lvL, lvV, zz_rfc, zz_rfs, zz_ci, zz_cr, zz_cj, zz_cf, zz_cd]) (by simp [lg_sl, zz_rfc, zz_ci, zz_cr, zz_cj, zz_cf, zz_cd]) (fun _ X => A_X1_report X a0 h)
-- X9_writes RenamedWordsModel.writes(I)V
noncomputable def f_X9_writes (a0 : Nat) (a1 : Int) (h : HP) : Option ((Unit) × HP) :=
  (rdR h (some a0) [7] 32).bind fun v1 =>
  (rdI h (some a0) [7] 33).bind fun v2 =>
  (astI h .int v1 v2 a1).bind fun h3 =>
  (rdI h3 (some a0) [7] 33).bind fun v4 =>
  (wrI h3 (some a0) [7] 33 (v4 + 1)).bind fun h5 =>
  some ((), h5)
theorem A_X9_writes {M : hp_M} {G : va_G} {h0 : HP} (X : hp_X M G h0 "RenamedWordsModel" "writes" cX9_writes 2 none [] 0 0) (a0 : Nat) (a1 : Int) (h : HP) : vv M G h0 2 (hp_End M G h0) jV h 0 [(0, LR (some a0)), (1, LI a1)] [] (f_X9_writes a0 a1 h) := by
  unfold f_X9_writes
  refine vv_aload_n (pc := 0) X (kf := 0) (i := 0) rfl 0 rfl dX9_writes_0 ?_
  refine vv_getR (pc := 1) X (fun _ z => by cases List.mem_singleton.mp z; exact fl_X9_66_7) dX9_writes_1 (fun v1 => ?_)
  refine vv_aload_n (pc := 4) X (kf := 0) (i := 0) rfl 0 rfl dX9_writes_4 ?_
  refine vv_getI (pc := 5) X (fun _ z => by cases List.mem_singleton.mp z; exact fl_X9_433_7) dX9_writes_5 (fun v2 => ?_)
  refine vv_iload_n (pc := 8) X (kf := 1) (i := 1) rfl 1 rfl dX9_writes_8 ?_
  refine vv_iastore (pc := 9) X dX9_writes_9 (fun h3 => ?_)
  refine vv_aload_n (pc := 10) X (kf := 0) (i := 0) rfl 0 rfl dX9_writes_10 ?_
  refine vv_dup (pc := 11) X rfl dX9_writes_11 ?_
  refine vv_getI (pc := 12) X (fun _ z => by cases List.mem_singleton.mp z; exact fl_X9_433_7) dX9_writes_12 (fun v4 => ?_)
  refine vv_iconst (pc := 15) X dX9_writes_15 ?_
  refine vv_iadd (pc := 16) X dX9_writes_16 ?_
  refine vv_putI (pc := 17) (fin := false) X (fun _ z => by cases List.mem_singleton.mp z; exact fl_X9_433_7) (fun z => nomatch z) (fun z => nomatch z) dX9_writes_17 (fun h5 => ?_)
  exact vv_vreturn X rfl rfl dX9_writes_20
theorem m_X9_writes {l : Launch} (hl : l.stackTraces = false) {G : va_G} (a0 : Nat) (a1 : Int) (h : HP) : ∀ r hf, f_X9_writes a0 a1 h = some (r, hf) → Ct l yX9_writes (ws_ yX9_writes cX9_writes 2 none) 0 0 G h [.ref a0, .int (iI a1)] (jV r) hf :=
  zz_ofW hl (by decide +kernel) (lv := [(0, LR (some a0)), (1, LI a1)]) (by simp [lv_args, lvL, lvV, zz_rfc, zz_rfs, zz_ci, zz_cr, zz_cj, zz_cf, zz_cd]) (by simp [lg_sl, zz_rfc, zz_ci, zz_cr, zz_cj, zz_cf, zz_cd]) (fun _ X => A_X9_writes X a0 a1 h)
-- X9_writesNumber RenamedWordsModel.writesNumber(I)V
noncomputable def c_X9_writesNumber_18 (r18 : Option Nat → Int → Int → HP → Option ((Unit) × HP)) (x0 : Option Nat) (x1 : Int) (x2 : Int) (h : HP) : Option ((Unit) × HP) :=
  iLE x2 0
    (some ((), h))
    ((iDV x1 x2).bind fun v2 =>
    (iRM v2 10).bind fun v3 =>
    (rcv h x0 [7]).bind fun b6 =>
    hb (f_X9_writes b6 (48 + v3) h) fun _ h5 =>
    (iDV x2 10).bind fun v8 =>
    r18 x0 x1 v8 h5)
noncomputable def b_X9_writesNumber_18 : Option Nat → Int → Int → HP → Option ((Unit) × HP) := fx (fun _ _ _ _ => none) (c_X9_writesNumber_18) FU
theorem C_X9_writesNumber_18 {M : hp_M} {G : va_G} {h0 : HP} (X : hp_X M G h0 "RenamedWordsModel" "writesNumber" cX9_writesNumber 3 none [] 1 29) (r18 : Option Nat → Int → Int → HP → Option ((Unit) × HP)) (hr18 : ∀ (y0 : Option Nat) (y1 : Int) (y2 : Int) (h : HP), vv M G h0 3 (hp_End M G h0) jV h 18 [(0, LR y0), (1, LI y1), (2, LI y2)] [] (r18 y0 y1 y2 h)) (x0 : Option Nat) (x1 : Int) (x2 : Int) (h : HP) : vv M G h0 3 (hp_End M G h0) jV h 18 [(0, LR x0), (1, LI x1), (2, LI x2)] [] (c_X9_writesNumber_18 r18 x0 x1 x2 h) := by
  unfold c_X9_writesNumber_18
  refine vv_iload_n (pc := 18) X (kf := 2) (i := 2) rfl 2 rfl dX9_writesNumber_18 ?_
  refine vv_if_le (pc := 19) (tgt := 43) X dX9_writesNumber_19 rfl ?_ ?_
  · exact vv_vreturn X rfl rfl dX9_writesNumber_43
  · refine vv_aload_n (pc := 22) X (kf := 0) (i := 0) rfl 0 rfl dX9_writesNumber_22 ?_
    refine vv_bipush (pc := 23) X (by decide) dX9_writesNumber_23 ?_
    refine vv_iload_n (pc := 25) X (kf := 1) (i := 1) rfl 1 rfl dX9_writesNumber_25 ?_
    refine vv_iload_n (pc := 26) X (kf := 2) (i := 2) rfl 2 rfl dX9_writesNumber_26 ?_
    refine vv_idiv (pc := 27) X dX9_writesNumber_27 (fun v2 => ?_)
    refine vv_bipush (pc := 28) X (by decide) dX9_writesNumber_28 ?_
    refine vv_irem (pc := 30) X dX9_writesNumber_30 (fun v3 => ?_)
    refine vv_iadd (pc := 31) X dX9_writesNumber_31 ?_
    refine vv_rcv (fun b6 t9 c9 fs9 e7 g9 k9 => ?_)
    cases List.mem_singleton.mp k9
    refine vv_callV (pc := 32) (rest := []) (by rw [e7]; rfl) (fun r8 k8 e8 => zz_callV X (m_X9_writes (hlM X) _ _ _ _ _ e8) g9 rfl rfl q4059 q4061 qs128 q164 q4062 nh_X9 rfl (by decide) (by decide) (Nat.le_of_ble_eq_true rfl) dX9_writesNumber_32) (fun v4 h5 => ?_)
    refine vv_iload_n (pc := 35) X (kf := 2) (i := 2) rfl 2 rfl dX9_writesNumber_35 ?_
    refine vv_bipush (pc := 36) X (by decide) dX9_writesNumber_36 ?_
    refine vv_idiv (pc := 38) X dX9_writesNumber_38 (fun v8 => ?_)
    refine vv_istore_n (pc := 39) (lv' := [(2, LI v8), (0, LR x0), (1, LI x1)]) X (kf := 2) (i := 2) rfl (by decide) rfl dX9_writesNumber_39 ?_
    refine vv_goto (pc := 40) (tgt := 18) X dX9_writesNumber_40 rfl ?_
    exact vv_sub [1, 2, 0] (by rfl) (hr18 _ _ _ _)
theorem B_X9_writesNumber_18 {M : hp_M} {G : va_G} {h0 : HP} (X : hp_X M G h0 "RenamedWordsModel" "writesNumber" cX9_writesNumber 3 none [] 1 29) : ∀ (x0 : Option Nat) (x1 : Int) (x2 : Int) (h : HP), vv M G h0 3 (hp_End M G h0) jV h 18 [(0, LR x0), (1, LI x1), (2, LI x2)] [] (b_X9_writesNumber_18 x0 x1 x2 h) := by
  unfold b_X9_writesNumber_18
  generalize FU = n
  induction n with
  | zero => intro x0 x1 x2 h; exact vv_none
  | succ n ih => exact C_X9_writesNumber_18 X _ ih
noncomputable def c_X9_writesNumber_2 (r2 : Option Nat → Int → Int → HP → Option ((Unit) × HP)) (x0 : Option Nat) (x1 : Int) (x2 : Int) (h : HP) : Option ((Unit) × HP) :=
  (iDV x1 x2).bind fun v1 =>
  iLE v1 9
    (b_X9_writesNumber_18 x0 x1 x2 h)
    (r2 x0 x1 (x2 * 10) h)
noncomputable def b_X9_writesNumber_2 : Option Nat → Int → Int → HP → Option ((Unit) × HP) := fx (fun _ _ _ _ => none) (c_X9_writesNumber_2) FU
theorem C_X9_writesNumber_2 {M : hp_M} {G : va_G} {h0 : HP} (X : hp_X M G h0 "RenamedWordsModel" "writesNumber" cX9_writesNumber 3 none [] 1 29) (r2 : Option Nat → Int → Int → HP → Option ((Unit) × HP)) (hr2 : ∀ (y0 : Option Nat) (y1 : Int) (y2 : Int) (h : HP), vv M G h0 3 (hp_End M G h0) jV h 2 [(0, LR y0), (1, LI y1), (2, LI y2)] [] (r2 y0 y1 y2 h)) (x0 : Option Nat) (x1 : Int) (x2 : Int) (h : HP) : vv M G h0 3 (hp_End M G h0) jV h 2 [(0, LR x0), (1, LI x1), (2, LI x2)] [] (c_X9_writesNumber_2 r2 x0 x1 x2 h) := by
  unfold c_X9_writesNumber_2
  refine vv_iload_n (pc := 2) X (kf := 1) (i := 1) rfl 1 rfl dX9_writesNumber_2 ?_
  refine vv_iload_n (pc := 3) X (kf := 2) (i := 2) rfl 2 rfl dX9_writesNumber_3 ?_
  refine vv_idiv (pc := 4) X dX9_writesNumber_4 (fun v1 => ?_)
  refine vv_bipush (pc := 5) X (by decide) dX9_writesNumber_5 ?_
  refine vv_icmp_le (pc := 7) (tgt := 18) X dX9_writesNumber_7 rfl ?_ ?_
  · exact B_X9_writesNumber_18 X _ _ _ _
  · refine vv_iload_n (pc := 10) X (kf := 2) (i := 2) rfl 2 rfl dX9_writesNumber_10 ?_
    refine vv_bipush (pc := 11) X (by decide) dX9_writesNumber_11 ?_
    refine vv_imul (pc := 13) X dX9_writesNumber_13 ?_
    refine vv_istore_n (pc := 14) (lv' := [(2, LI (x2 * 10)), (0, LR x0), (1, LI x1)]) X (kf := 2) (i := 2) rfl (by decide) rfl dX9_writesNumber_14 ?_
    refine vv_goto (pc := 15) (tgt := 2) X dX9_writesNumber_15 rfl ?_
    exact vv_sub [1, 2, 0] (by rfl) (hr2 _ _ _ _)
theorem B_X9_writesNumber_2 {M : hp_M} {G : va_G} {h0 : HP} (X : hp_X M G h0 "RenamedWordsModel" "writesNumber" cX9_writesNumber 3 none [] 1 29) : ∀ (x0 : Option Nat) (x1 : Int) (x2 : Int) (h : HP), vv M G h0 3 (hp_End M G h0) jV h 2 [(0, LR x0), (1, LI x1), (2, LI x2)] [] (b_X9_writesNumber_2 x0 x1 x2 h) := by
  unfold b_X9_writesNumber_2
  generalize FU = n
  induction n with
  | zero => intro x0 x1 x2 h; exact vv_none
  | succ n ih => exact C_X9_writesNumber_2 X _ ih
noncomputable def f_X9_writesNumber (a0 : Nat) (a1 : Int) (h : HP) : Option ((Unit) × HP) :=
  b_X9_writesNumber_2 (some a0) a1 1 h
theorem A_X9_writesNumber {M : hp_M} {G : va_G} {h0 : HP} (X : hp_X M G h0 "RenamedWordsModel" "writesNumber" cX9_writesNumber 3 none [] 1 29) (a0 : Nat) (a1 : Int) (h : HP) : vv M G h0 3 (hp_End M G h0) jV h 0 [(0, LR (some a0)), (1, LI a1)] [] (f_X9_writesNumber a0 a1 h) := by
  unfold f_X9_writesNumber
  refine vv_iconst (pc := 0) X dX9_writesNumber_0 ?_
  refine vv_istore_n (pc := 1) (lv' := [(2, LI 1), (0, LR (some a0)), (1, LI a1)]) X (kf := 2) (i := 2) rfl (by decide) rfl dX9_writesNumber_1 ?_
  exact vv_sub [1, 2, 0] (by rfl) (B_X9_writesNumber_2 X _ _ _ _)
theorem m_X9_writesNumber {l : Launch} (hl : l.stackTraces = false) {G : va_G} (a0 : Nat) (a1 : Int) (h : HP) : ∀ r hf, f_X9_writesNumber a0 a1 h = some (r, hf) → Ct l yX9_writesNumber (ws_ yX9_writesNumber cX9_writesNumber 3 none) 1 29 G h [.ref a0, .int (iI a1)] (jV r) hf :=
  zz_ofW hl (by decide +kernel) (lv := [(0, LR (some a0)), (1, LI a1)]) (by simp [lv_args, lvL, lvV, zz_rfc, zz_rfs, zz_ci, zz_cr, zz_cj, zz_cf, zz_cd]) (by simp [lg_sl, zz_rfc, zz_ci, zz_cr, zz_cj, zz_cf, zz_cd]) (fun _ X => A_X9_writesNumber X a0 a1 h)
-- X9_report RenamedWordsModel.report()I
noncomputable def c_X9_report_100 (r67 : Option Nat → Int → HP → Option ((Int) × HP)) (r100 : Option Nat → Int → Int → HP → Option ((Int) × HP)) (x0 : Option Nat) (x1 : Int) (x2 : Int) (h : HP) : Option ((Int) × HP) :=
  (rcv h x0 [7]).bind fun b26 =>
  hb (f_X9_markPattern b26 x1 h) fun v24 h25 =>
  (rcv h25 x0 [7]).bind fun b30 =>
  hb (f_X9_of b30 v24 1 h25) fun v28 h29 =>
  iLE v28 x2
    (r67 x0 (x1 + 1) h29)
    ((rcv h29 x0 [7]).bind fun b34 =>
    hb (f_X9_markPattern b34 x1 h29) fun v32 h33 =>
    (rcv h33 x0 [7]).bind fun b38 =>
    hb (f_X9_of b38 v32 (2 + x2) h33) fun v36 h37 =>
    (rcv h37 x0 [7]).bind fun b42 =>
    hb (f_X9_writes b42 v36 h37) fun _ h41 =>
    r100 x0 x1 (x2 + 1) h41)
noncomputable def b_X9_report_100 (r67 : Option Nat → Int → HP → Option ((Int) × HP)) : Option Nat → Int → Int → HP → Option ((Int) × HP) := fx (fun _ _ _ _ => none) (c_X9_report_100 r67) FU
theorem C_X9_report_100 {M : hp_M} {G : va_G} {h0 : HP} (X : hp_X M G h0 "RenamedWordsModel" "report" cX9_report 3 (some .int) [] 2 59) (r67 : Option Nat → Int → HP → Option ((Int) × HP)) (hr67 : ∀ (y0 : Option Nat) (y1 : Int) (h : HP), vv M G h0 3 (hp_End M G h0) jI h 67 [(0, LR y0), (1, LI y1)] [] (r67 y0 y1 h)) (r100 : Option Nat → Int → Int → HP → Option ((Int) × HP)) (hr100 : ∀ (y0 : Option Nat) (y1 : Int) (y2 : Int) (h : HP), vv M G h0 3 (hp_End M G h0) jI h 100 [(0, LR y0), (1, LI y1), (2, LI y2)] [] (r100 y0 y1 y2 h)) (x0 : Option Nat) (x1 : Int) (x2 : Int) (h : HP) : vv M G h0 3 (hp_End M G h0) jI h 100 [(0, LR x0), (1, LI x1), (2, LI x2)] [] (c_X9_report_100 r67 r100 x0 x1 x2 h) := by
  unfold c_X9_report_100
  refine vv_iload_n (pc := 100) X (kf := 2) (i := 2) rfl 2 rfl dX9_report_100 ?_
  refine vv_aload_n (pc := 101) X (kf := 0) (i := 0) rfl 0 rfl dX9_report_101 ?_
  refine vv_aload_n (pc := 102) X (kf := 0) (i := 0) rfl 0 rfl dX9_report_102 ?_
  refine vv_iload_n (pc := 103) X (kf := 1) (i := 1) rfl 1 rfl dX9_report_103 ?_
  refine vv_rcv (fun b26 t9 c9 fs9 e27 g9 k9 => ?_)
  cases List.mem_singleton.mp k9
  refine vv_callI (pc := 104) (rest := [LR x0, LI x2]) (by rw [e27]; rfl) (fun r8 k8 e8 => zz_callV X (m_X9_markPattern (hlM X) _ _ _ _ _ e8) g9 rfl rfl q3759 q3761 qs91 q164 q3762 nh_X9 rfl (by decide) (by decide) (Nat.le_of_ble_eq_true rfl) dX9_report_104) (fun v24 h25 => ?_)
  refine vv_iconst (pc := 107) X dX9_report_107 ?_
  refine vv_rcv (fun b30 t9 c9 fs9 e31 g9 k9 => ?_)
  cases List.mem_singleton.mp k9
  refine vv_callI (pc := 108) (rest := [LI x2]) (by rw [e31]; rfl) (fun r8 k8 e8 => zz_callV X (m_X9_of (hlM X) _ _ _ _ _ _ e8) g9 rfl rfl q3777 q3779 qs94 q164 q3780 nh_X9 rfl (by decide) (by decide) (Nat.le_of_ble_eq_true rfl) dX9_report_108) (fun v28 h29 => ?_)
  refine vv_icmp_ge (pc := 111) (tgt := 136) X dX9_report_111 rfl ?_ ?_
  · refine vv_iinc (pc := 136) (lv' := [(1, LI (x1 + 1)), (0, LR x0), (2, LI x2)]) X 1 rfl (by decide) rfl dX9_report_136 ?_
    refine vv_goto (pc := 139) (tgt := 67) X dX9_report_139 rfl ?_
    exact vv_sub [1, 0] (by rfl) (hr67 _ _ _)
  · refine vv_aload_n (pc := 114) X (kf := 0) (i := 0) rfl 0 rfl dX9_report_114 ?_
    refine vv_aload_n (pc := 115) X (kf := 0) (i := 0) rfl 0 rfl dX9_report_115 ?_
    refine vv_aload_n (pc := 116) X (kf := 0) (i := 0) rfl 0 rfl dX9_report_116 ?_
    refine vv_iload_n (pc := 117) X (kf := 1) (i := 1) rfl 1 rfl dX9_report_117 ?_
    refine vv_rcv (fun b34 t9 c9 fs9 e35 g9 k9 => ?_)
    cases List.mem_singleton.mp k9
    refine vv_callI (pc := 118) (rest := [LR x0, LR x0]) (by rw [e35]; rfl) (fun r8 k8 e8 => zz_callV X (m_X9_markPattern (hlM X) _ _ _ _ _ e8) g9 rfl rfl q3759 q3761 qs91 q164 q3762 nh_X9 rfl (by decide) (by decide) (Nat.le_of_ble_eq_true rfl) dX9_report_118) (fun v32 h33 => ?_)
    refine vv_iconst (pc := 121) X dX9_report_121 ?_
    refine vv_iload_n (pc := 122) X (kf := 2) (i := 2) rfl 2 rfl dX9_report_122 ?_
    refine vv_iadd (pc := 123) X dX9_report_123 ?_
    refine vv_rcv (fun b38 t9 c9 fs9 e39 g9 k9 => ?_)
    cases List.mem_singleton.mp k9
    refine vv_callI (pc := 124) (rest := [LR x0]) (by rw [e39]; rfl) (fun r8 k8 e8 => zz_callV X (m_X9_of (hlM X) _ _ _ _ _ _ e8) g9 rfl rfl q3777 q3779 qs94 q164 q3780 nh_X9 rfl (by decide) (by decide) (Nat.le_of_ble_eq_true rfl) dX9_report_124) (fun v36 h37 => ?_)
    refine vv_rcv (fun b42 t9 c9 fs9 e43 g9 k9 => ?_)
    cases List.mem_singleton.mp k9
    refine vv_callV (pc := 127) (rest := []) (by rw [e43]; rfl) (fun r8 k8 e8 => zz_callV X (m_X9_writes (hlM X) _ _ _ _ _ e8) g9 rfl rfl q4059 q4061 qs128 q164 q4062 nh_X9 rfl (by decide) (by decide) (Nat.le_of_ble_eq_true rfl) dX9_report_127) (fun v40 h41 => ?_)
    refine vv_iinc (pc := 130) (lv' := [(2, LI (x2 + 1)), (0, LR x0), (1, LI x1)]) X 2 rfl (by decide) rfl dX9_report_130 ?_
    refine vv_goto (pc := 133) (tgt := 100) X dX9_report_133 rfl ?_
    exact vv_sub [1, 2, 0] (by rfl) (hr100 _ _ _ _)
theorem B_X9_report_100 {M : hp_M} {G : va_G} {h0 : HP} (X : hp_X M G h0 "RenamedWordsModel" "report" cX9_report 3 (some .int) [] 2 59) (r67 : Option Nat → Int → HP → Option ((Int) × HP)) (hr67 : ∀ (y0 : Option Nat) (y1 : Int) (h : HP), vv M G h0 3 (hp_End M G h0) jI h 67 [(0, LR y0), (1, LI y1)] [] (r67 y0 y1 h)) : ∀ (x0 : Option Nat) (x1 : Int) (x2 : Int) (h : HP), vv M G h0 3 (hp_End M G h0) jI h 100 [(0, LR x0), (1, LI x1), (2, LI x2)] [] (b_X9_report_100 r67 x0 x1 x2 h) := by
  unfold b_X9_report_100
  generalize FU = n
  induction n with
  | zero => intro x0 x1 x2 h; exact vv_none
  | succ n ih => exact C_X9_report_100 X r67 hr67 _ ih
noncomputable def c_X9_report_67 (r67 : Option Nat → Int → HP → Option ((Int) × HP)) (x0 : Option Nat) (x1 : Int) (h : HP) : Option ((Int) × HP) :=
  (rdR h x0 [7] 0).bind fun v5 =>
  (aldI h .int v5 3).bind fun v6 =>
  iLE v6 x1
    ((rdI h x0 [7] 33).bind fun v7 =>
    some (v7, h))
    ((rcv h x0 [7]).bind fun b10 =>
    hb (f_X9_writes b10 32 h) fun _ h9 =>
    (rcv h9 x0 [7]).bind fun b14 =>
    hb (f_X9_markPlace b14 x1 h9) fun v12 h13 =>
    (rcv h13 x0 [7]).bind fun b18 =>
    hb (f_X9_writesNumber b18 v12 h13) fun _ h17 =>
    (rcv h17 x0 [7]).bind fun b22 =>
    hb (f_X9_writes b22 58 h17) fun _ h21 =>
    b_X9_report_100 r67 x0 x1 0 h21)
noncomputable def b_X9_report_67 : Option Nat → Int → HP → Option ((Int) × HP) := fx (fun _ _ _ => none) (c_X9_report_67) FU
theorem C_X9_report_67 {M : hp_M} {G : va_G} {h0 : HP} (X : hp_X M G h0 "RenamedWordsModel" "report" cX9_report 3 (some .int) [] 2 59) (r67 : Option Nat → Int → HP → Option ((Int) × HP)) (hr67 : ∀ (y0 : Option Nat) (y1 : Int) (h : HP), vv M G h0 3 (hp_End M G h0) jI h 67 [(0, LR y0), (1, LI y1)] [] (r67 y0 y1 h)) (x0 : Option Nat) (x1 : Int) (h : HP) : vv M G h0 3 (hp_End M G h0) jI h 67 [(0, LR x0), (1, LI x1)] [] (c_X9_report_67 r67 x0 x1 h) := by
  unfold c_X9_report_67
  refine vv_iload_n (pc := 67) X (kf := 1) (i := 1) rfl 1 rfl dX9_report_67 ?_
  refine vv_aload_n (pc := 68) X (kf := 0) (i := 0) rfl 0 rfl dX9_report_68 ?_
  refine vv_getR (pc := 69) X (fun _ z => by cases List.mem_singleton.mp z; exact fl_X9_9_7) dX9_report_69 (fun v5 => ?_)
  refine vv_iconst (pc := 72) X dX9_report_72 ?_
  refine vv_iaload (pc := 73) X dX9_report_73 (fun v6 => ?_)
  refine vv_icmp_ge (pc := 74) (tgt := 142) X dX9_report_74 rfl ?_ ?_
  · refine vv_aload_n (pc := 142) X (kf := 0) (i := 0) rfl 0 rfl dX9_report_142 ?_
    refine vv_getI (pc := 143) X (fun _ z => by cases List.mem_singleton.mp z; exact fl_X9_433_7) dX9_report_143 (fun v7 => ?_)
    exact vv_iretI X rfl rfl dX9_report_146
  · refine vv_aload_n (pc := 77) X (kf := 0) (i := 0) rfl 0 rfl dX9_report_77 ?_
    refine vv_bipush (pc := 78) X (by decide) dX9_report_78 ?_
    refine vv_rcv (fun b10 t9 c9 fs9 e11 g9 k9 => ?_)
    cases List.mem_singleton.mp k9
    refine vv_callV (pc := 80) (rest := []) (by rw [e11]; rfl) (fun r8 k8 e8 => zz_callV X (m_X9_writes (hlM X) _ _ _ _ _ e8) g9 rfl rfl q4059 q4061 qs128 q164 q4062 nh_X9 rfl (by decide) (by decide) (Nat.le_of_ble_eq_true rfl) dX9_report_80) (fun v8 h9 => ?_)
    refine vv_aload_n (pc := 83) X (kf := 0) (i := 0) rfl 0 rfl dX9_report_83 ?_
    refine vv_aload_n (pc := 84) X (kf := 0) (i := 0) rfl 0 rfl dX9_report_84 ?_
    refine vv_iload_n (pc := 85) X (kf := 1) (i := 1) rfl 1 rfl dX9_report_85 ?_
    refine vv_rcv (fun b14 t9 c9 fs9 e15 g9 k9 => ?_)
    cases List.mem_singleton.mp k9
    refine vv_callI (pc := 86) (rest := [LR x0]) (by rw [e15]; rfl) (fun r8 k8 e8 => zz_callV X (m_X9_markPlace (hlM X) _ _ _ _ _ e8) g9 rfl rfl q3747 q3749 qs88 q164 q3750 nh_X9 rfl (by decide) (by decide) (Nat.le_of_ble_eq_true rfl) dX9_report_86) (fun v12 h13 => ?_)
    refine vv_rcv (fun b18 t9 c9 fs9 e19 g9 k9 => ?_)
    cases List.mem_singleton.mp k9
    refine vv_callV (pc := 89) (rest := []) (by rw [e19]; rfl) (fun r8 k8 e8 => zz_callV X (m_X9_writesNumber (hlM X) _ _ _ _ _ e8) g9 rfl rfl q4063 q4065 qs129 q164 q4066 nh_X9 rfl (by decide) (by decide) (Nat.le_of_ble_eq_true rfl) dX9_report_89) (fun v16 h17 => ?_)
    refine vv_aload_n (pc := 92) X (kf := 0) (i := 0) rfl 0 rfl dX9_report_92 ?_
    refine vv_bipush (pc := 93) X (by decide) dX9_report_93 ?_
    refine vv_rcv (fun b22 t9 c9 fs9 e23 g9 k9 => ?_)
    cases List.mem_singleton.mp k9
    refine vv_callV (pc := 95) (rest := []) (by rw [e23]; rfl) (fun r8 k8 e8 => zz_callV X (m_X9_writes (hlM X) _ _ _ _ _ e8) g9 rfl rfl q4059 q4061 qs128 q164 q4062 nh_X9 rfl (by decide) (by decide) (Nat.le_of_ble_eq_true rfl) dX9_report_95) (fun v20 h21 => ?_)
    refine vv_iconst (pc := 98) X dX9_report_98 ?_
    refine vv_istore_n (pc := 99) (lv' := [(2, LI 0), (0, LR x0), (1, LI x1)]) X (kf := 2) (i := 2) rfl (by decide) rfl dX9_report_99 ?_
    exact vv_sub [1, 2, 0] (by rfl) (B_X9_report_100 X r67 hr67 _ _ _ _)
theorem B_X9_report_67 {M : hp_M} {G : va_G} {h0 : HP} (X : hp_X M G h0 "RenamedWordsModel" "report" cX9_report 3 (some .int) [] 2 59) : ∀ (x0 : Option Nat) (x1 : Int) (h : HP), vv M G h0 3 (hp_End M G h0) jI h 67 [(0, LR x0), (1, LI x1)] [] (b_X9_report_67 x0 x1 h) := by
  unfold b_X9_report_67
  generalize FU = n
  induction n with
  | zero => intro x0 x1 h; exact vv_none
  | succ n ih => exact C_X9_report_67 X _ ih
noncomputable def b_X9_report_55 (r12 : Option Nat → Int → HP → Option ((Int) × HP)) (x0 : Option Nat) (x1 : Int) (s0 : Int) (s1 : Int) (s2 : Option Nat) (h : HP) : Option ((Int) × HP) :=
  (rcv h s2 [7]).bind fun b54 =>
  hb (f_X9_writes b54 (s1 + s0) h) fun _ h53 =>
  r12 x0 (x1 + 1) h53
theorem B_X9_report_55 {M : hp_M} {G : va_G} {h0 : HP} (X : hp_X M G h0 "RenamedWordsModel" "report" cX9_report 3 (some .int) [] 2 59) (r12 : Option Nat → Int → HP → Option ((Int) × HP)) (hr12 : ∀ (y0 : Option Nat) (y1 : Int) (h : HP), vv M G h0 3 (hp_End M G h0) jI h 12 [(0, LR y0), (1, LI y1)] [] (r12 y0 y1 h)) (x0 : Option Nat) (x1 : Int) (s0 : Int) (s1 : Int) (s2 : Option Nat) (h : HP) : vv M G h0 3 (hp_End M G h0) jI h 55 [(0, LR x0), (1, LI x1)] [LI s0, LI s1, LR s2] (b_X9_report_55 r12 x0 x1 s0 s1 s2 h) := by
  unfold b_X9_report_55
  refine vv_iadd (pc := 55) X dX9_report_55 ?_
  refine vv_rcv (fun b54 t9 c9 fs9 e55 g9 k9 => ?_)
  cases List.mem_singleton.mp k9
  refine vv_callV (pc := 56) (rest := []) (by rw [e55]; rfl) (fun r8 k8 e8 => zz_callV X (m_X9_writes (hlM X) _ _ _ _ _ e8) g9 rfl rfl q4059 q4061 qs128 q164 q4062 nh_X9 rfl (by decide) (by decide) (Nat.le_of_ble_eq_true rfl) dX9_report_56) (fun v52 h53 => ?_)
  refine vv_iinc (pc := 59) (lv' := [(1, LI (x1 + 1)), (0, LR x0)]) X 1 rfl (by decide) rfl dX9_report_59 ?_
  refine vv_goto (pc := 62) (tgt := 12) X dX9_report_62 rfl ?_
  exact vv_sub [1, 0] (by rfl) (hr12 _ _ _)
noncomputable def c_X9_report_12 (r12 : Option Nat → Int → HP → Option ((Int) × HP)) (x0 : Option Nat) (x1 : Int) (h : HP) : Option ((Int) × HP) :=
  (rdR h x0 [7] 0).bind fun v3 =>
  (aldI h .int v3 1).bind fun v4 =>
  iLE v4 x1
    (b_X9_report_67 x0 0 h)
    ((rdR h x0 [7] 0).bind fun v44 =>
    (aldI h .int v44 (16 + x1)).bind fun v45 =>
    (rdR h x0 [7] 0).bind fun v46 =>
    (aldI h .int v46 (16 + x1)).bind fun v47 =>
    (rcv h x0 [7]).bind fun b50 =>
    hb (f_X9_isFirm b50 v47 h) fun v48 h49 =>
    iEQ v48 0
      (b_X9_report_55 r12 x0 x1 65 v45 x0 h49)
      (b_X9_report_55 r12 x0 x1 97 v45 x0 h49))
noncomputable def b_X9_report_12 : Option Nat → Int → HP → Option ((Int) × HP) := fx (fun _ _ _ => none) (c_X9_report_12) FU
theorem C_X9_report_12 {M : hp_M} {G : va_G} {h0 : HP} (X : hp_X M G h0 "RenamedWordsModel" "report" cX9_report 3 (some .int) [] 2 59) (r12 : Option Nat → Int → HP → Option ((Int) × HP)) (hr12 : ∀ (y0 : Option Nat) (y1 : Int) (h : HP), vv M G h0 3 (hp_End M G h0) jI h 12 [(0, LR y0), (1, LI y1)] [] (r12 y0 y1 h)) (x0 : Option Nat) (x1 : Int) (h : HP) : vv M G h0 3 (hp_End M G h0) jI h 12 [(0, LR x0), (1, LI x1)] [] (c_X9_report_12 r12 x0 x1 h) := by
  unfold c_X9_report_12
  refine vv_iload_n (pc := 12) X (kf := 1) (i := 1) rfl 1 rfl dX9_report_12 ?_
  refine vv_aload_n (pc := 13) X (kf := 0) (i := 0) rfl 0 rfl dX9_report_13 ?_
  refine vv_getR (pc := 14) X (fun _ z => by cases List.mem_singleton.mp z; exact fl_X9_9_7) dX9_report_14 (fun v3 => ?_)
  refine vv_iconst (pc := 17) X dX9_report_17 ?_
  refine vv_iaload (pc := 18) X dX9_report_18 (fun v4 => ?_)
  refine vv_icmp_ge (pc := 19) (tgt := 65) X dX9_report_19 rfl ?_ ?_
  · refine vv_iconst (pc := 65) X dX9_report_65 ?_
    refine vv_istore_n (pc := 66) (lv' := [(1, LI 0), (0, LR x0)]) X (kf := 1) (i := 1) rfl (by decide) rfl dX9_report_66 ?_
    exact vv_sub [1, 0] (by rfl) (B_X9_report_67 X _ _ _)
  · refine vv_aload_n (pc := 22) X (kf := 0) (i := 0) rfl 0 rfl dX9_report_22 ?_
    refine vv_aload_n (pc := 23) X (kf := 0) (i := 0) rfl 0 rfl dX9_report_23 ?_
    refine vv_getR (pc := 24) X (fun _ z => by cases List.mem_singleton.mp z; exact fl_X9_9_7) dX9_report_24 (fun v44 => ?_)
    refine vv_bipush (pc := 27) X (by decide) dX9_report_27 ?_
    refine vv_iload_n (pc := 29) X (kf := 1) (i := 1) rfl 1 rfl dX9_report_29 ?_
    refine vv_iadd (pc := 30) X dX9_report_30 ?_
    refine vv_iaload (pc := 31) X dX9_report_31 (fun v45 => ?_)
    refine vv_aload_n (pc := 32) X (kf := 0) (i := 0) rfl 0 rfl dX9_report_32 ?_
    refine vv_aload_n (pc := 33) X (kf := 0) (i := 0) rfl 0 rfl dX9_report_33 ?_
    refine vv_getR (pc := 34) X (fun _ z => by cases List.mem_singleton.mp z; exact fl_X9_9_7) dX9_report_34 (fun v46 => ?_)
    refine vv_bipush (pc := 37) X (by decide) dX9_report_37 ?_
    refine vv_iload_n (pc := 39) X (kf := 1) (i := 1) rfl 1 rfl dX9_report_39 ?_
    refine vv_iadd (pc := 40) X dX9_report_40 ?_
    refine vv_iaload (pc := 41) X dX9_report_41 (fun v47 => ?_)
    refine vv_rcv (fun b50 t9 c9 fs9 e51 g9 k9 => ?_)
    cases List.mem_singleton.mp k9
    refine vv_callI (pc := 42) (rest := [LI v45, LR x0]) (by rw [e51]; rfl) (fun r8 k8 e8 => zz_callV X (m_X9_isFirm (hlM X) _ _ _ _ _ e8) g9 rfl rfl q3789 q3791 qs97 q164 q3792 nh_X9 rfl (by decide) (by decide) (Nat.le_of_ble_eq_true rfl) dX9_report_42) (fun v48 h49 => ?_)
    refine vv_if_eq (pc := 45) (tgt := 53) X dX9_report_45 rfl ?_ ?_
    · refine vv_bipush (pc := 53) X (by decide) dX9_report_53 ?_
      exact B_X9_report_55 X r12 hr12 _ _ _ _ _ _
    · refine vv_bipush (pc := 48) X (by decide) dX9_report_48 ?_
      refine vv_goto (pc := 50) (tgt := 55) X dX9_report_50 rfl ?_
      exact B_X9_report_55 X r12 hr12 _ _ _ _ _ _
theorem B_X9_report_12 {M : hp_M} {G : va_G} {h0 : HP} (X : hp_X M G h0 "RenamedWordsModel" "report" cX9_report 3 (some .int) [] 2 59) : ∀ (x0 : Option Nat) (x1 : Int) (h : HP), vv M G h0 3 (hp_End M G h0) jI h 12 [(0, LR x0), (1, LI x1)] [] (b_X9_report_12 x0 x1 h) := by
  unfold b_X9_report_12
  generalize FU = n
  induction n with
  | zero => intro x0 x1 h; exact vv_none
  | succ n ih => exact C_X9_report_12 X _ ih
noncomputable def f_X9_report (a0 : Nat) (h : HP) : Option ((Int) × HP) :=
  (wrI h (some a0) [7] 7 0).bind fun h1 =>
  (wrI h1 (some a0) [7] 33 0).bind fun h2 =>
  b_X9_report_12 (some a0) 0 h2
theorem A_X9_report {M : hp_M} {G : va_G} {h0 : HP} (X : hp_X M G h0 "RenamedWordsModel" "report" cX9_report 3 (some .int) [] 2 59) (a0 : Nat) (h : HP) : vv M G h0 3 (hp_End M G h0) jI h 0 [(0, LR (some a0))] [] (f_X9_report a0 h) := by
  unfold f_X9_report
  refine vv_aload_n (pc := 0) X (kf := 0) (i := 0) rfl 0 rfl dX9_report_0 ?_
  refine vv_iconst (pc := 1) X dX9_report_1 ?_
  refine vv_putI (pc := 2) (fin := false) X (fun _ z => by cases List.mem_singleton.mp z; exact fl_X9_69_7) (fun z => nomatch z) (fun z => nomatch z) dX9_report_2 (fun h1 => ?_)
  refine vv_aload_n (pc := 5) X (kf := 0) (i := 0) rfl 0 rfl dX9_report_5 ?_
  refine vv_iconst (pc := 6) X dX9_report_6 ?_
  refine vv_putI (pc := 7) (fin := false) X (fun _ z => by cases List.mem_singleton.mp z; exact fl_X9_433_7) (fun z => nomatch z) (fun z => nomatch z) dX9_report_7 (fun h2 => ?_)
  refine vv_iconst (pc := 10) X dX9_report_10 ?_
  refine vv_istore_n (pc := 11) (lv' := [(1, LI 0), (0, LR (some a0))]) X (kf := 1) (i := 1) rfl (by decide) rfl dX9_report_11 ?_
  exact vv_sub [1, 0] (by rfl) (B_X9_report_12 X _ _ _)
theorem m_X9_report {l : Launch} (hl : l.stackTraces = false) {G : va_G} (a0 : Nat) (h : HP) : ∀ r hf, f_X9_report a0 h = some (r, hf) → Ct l yX9_report (ws_ yX9_report cX9_report 3 (some .int)) 2 59 G h [.ref a0] (jI r) hf :=
  zz_ofW hl (by decide +kernel) (lv := [(0, LR (some a0))]) (by simp [lv_args, lvL, lvV, zz_rfc, zz_rfs, zz_ci, zz_cr, zz_cj, zz_cf, zz_cd]) (by simp [lg_sl, zz_rfc, zz_ci, zz_cr, zz_cj, zz_cf, zz_cd]) (fun _ X => A_X9_report X a0 h)
-- X1_reportByte RenamedWords.reportByte(I)I
noncomputable def b_X1_reportByte_31 (s0 : Int) (h : HP) : Option ((Int) × HP) :=
  some (s0, h)
theorem B_X1_reportByte_31 {M : hp_M} {G : va_G} {h0 : HP} (X : hp_X M G h0 "RenamedWords" "reportByte" cX1_reportByte 2 (some .int) [] 4 117) (s0 : Int) (h : HP) : vv M G h0 2 (hp_End M G h0) jI h 31 [] [LI s0] (b_X1_reportByte_31 s0 h) := by
  unfold b_X1_reportByte_31
  exact vv_iretI X rfl rfl dX1_reportByte_31
noncomputable def f_X1_reportByte (a0 : Nat) (a1 : Int) (h : HP) : Option ((Int) × HP) :=
  (rdR h (some a0) [0] 8).bind fun v1 =>
  (rcv h v1 [26]).bind fun b4 =>
  hb (f_J11_length b4 h) fun v2 h3 =>
  hb (f_X1_in (iL a1) 0 (iL (v2 - 1)) h3) fun v6 h7 =>
  iEQ v6 0
    (b_X1_reportByte_31 (-1) h7)
    ((rdR h7 (some a0) [0] 8).bind fun v8 =>
    (rcv h7 v8 [26]).bind fun b11 =>
    hb (f_J11_charAt b11 a1 h7) fun v9 h10 =>
    b_X1_reportByte_31 v9 h10)
theorem A_X1_reportByte {M : hp_M} {G : va_G} {h0 : HP} (X : hp_X M G h0 "RenamedWords" "reportByte" cX1_reportByte 2 (some .int) [] 4 117) (a0 : Nat) (a1 : Int) (h : HP) : vv M G h0 2 (hp_End M G h0) jI h 0 [(0, LR (some a0)), (1, LI a1)] [] (f_X1_reportByte a0 a1 h) := by
  unfold f_X1_reportByte
  refine vv_iload_n (pc := 0) X (kf := 1) (i := 1) rfl 1 rfl dX1_reportByte_0 ?_
  refine vv_i2l (pc := 1) X dX1_reportByte_1 ?_
  refine vv_lconst (pc := 2) (v := 0) X (by decide) dX1_reportByte_2 ?_
  refine vv_aload_n (pc := 3) X (kf := 0) (i := 0) rfl 0 rfl dX1_reportByte_3 ?_
  refine vv_getR (pc := 4) X (fun _ z => by cases List.mem_singleton.mp z; exact fl_X1_69_0) dX1_reportByte_4 (fun v1 => ?_)
  refine vv_rcv (fun b4 t9 c9 fs9 e5 g9 k9 => ?_)
  cases List.mem_singleton.mp k9
  refine vv_callI (pc := 7) (rest := [LJ 0, LJ (iL a1)]) (by rw [e5]; rfl) (fun r8 k8 e8 => zz_callV X (m_J11_length (hlM X) _ _ _ _ e8) g9 rfl rfl q2979 q429 q430 q146 q431 nh_J11 rfl (by decide) (by decide) (Nat.le_of_ble_eq_true rfl) dX1_reportByte_7) (fun v2 h3 => ?_)
  refine vv_iconst (pc := 10) X dX1_reportByte_10 ?_
  refine vv_isub (pc := 11) X dX1_reportByte_11 ?_
  refine vv_i2l (pc := 12) X dX1_reportByte_12 ?_
  refine vv_callI (pc := 13) (rest := []) (by rfl) (fun r8 k8 e8 => zz_callS X (m_X1_in (hlM X) _ _ _ _ _ _ e8) q2984 q873 q132 q874 nh_X1 rfl (by decide) (by decide) (Nat.le_of_ble_eq_true rfl) dX1_reportByte_13) (fun v6 h7 => ?_)
  refine vv_if_eq (pc := 16) (tgt := 30) X dX1_reportByte_16 rfl ?_ ?_
  · refine vv_iconst (pc := 30) X dX1_reportByte_30 ?_
    exact vv_sub [] (by rfl) (B_X1_reportByte_31 X _ _)
  · refine vv_aload_n (pc := 19) X (kf := 0) (i := 0) rfl 0 rfl dX1_reportByte_19 ?_
    refine vv_getR (pc := 20) X (fun _ z => by cases List.mem_singleton.mp z; exact fl_X1_69_0) dX1_reportByte_20 (fun v8 => ?_)
    refine vv_iload_n (pc := 23) X (kf := 1) (i := 1) rfl 1 rfl dX1_reportByte_23 ?_
    refine vv_rcv (fun b11 t9 c9 fs9 e12 g9 k9 => ?_)
    cases List.mem_singleton.mp k9
    refine vv_callI (pc := 24) (rest := []) (by rw [e12]; rfl) (fun r8 k8 e8 => zz_callV X (m_J11_charAt (hlM X) _ _ _ _ _ e8) g9 rfl rfl q2985 q1021 q1022 q146 q1023 nh_J11 rfl (by decide) (by decide) (Nat.le_of_ble_eq_true rfl) dX1_reportByte_24) (fun v9 h10 => ?_)
    refine vv_goto (pc := 27) (tgt := 31) X dX1_reportByte_27 rfl ?_
    exact vv_sub [] (by rfl) (B_X1_reportByte_31 X _ _)
theorem m_X1_reportByte {l : Launch} (hl : l.stackTraces = false) {G : va_G} (a0 : Nat) (a1 : Int) (h : HP) : ∀ r hf, f_X1_reportByte a0 a1 h = some (r, hf) → Ct l yX1_reportByte (ws_ yX1_reportByte cX1_reportByte 2 (some .int)) 4 117 G h [.ref a0, .int (iI a1)] (jI r) hf :=
  zz_ofW hl (by decide +kernel) (lv := [(0, LR (some a0)), (1, LI a1)]) (by simp [lv_args, lvL, lvV, zz_rfc, zz_rfs, zz_ci, zz_cr, zz_cj, zz_cf, zz_cd]) (by simp [lg_sl, zz_rfc, zz_ci, zz_cr, zz_cj, zz_cf, zz_cd]) (fun _ X => A_X1_reportByte X a0 a1 h)
-- X9_reportByte RenamedWordsModel.reportByte(I)I
noncomputable def b_X9_reportByte_29 (s0 : Int) (h : HP) : Option ((Int) × HP) :=
  some (s0, h)
theorem B_X9_reportByte_29 {M : hp_M} {G : va_G} {h0 : HP} (X : hp_X M G h0 "RenamedWordsModel" "reportByte" cX9_reportByte 2 (some .int) [] 1 30) (s0 : Int) (h : HP) : vv M G h0 2 (hp_End M G h0) jI h 29 [] [LI s0] (b_X9_reportByte_29 s0 h) := by
  unfold b_X9_reportByte_29
  exact vv_iretI X rfl rfl dX9_reportByte_29
noncomputable def f_X9_reportByte (a0 : Nat) (a1 : Int) (h : HP) : Option ((Int) × HP) :=
  (wrI h (some a0) [7] 7 0).bind fun h1 =>
  (rdI h1 (some a0) [7] 33).bind fun v2 =>
  hb (f_X9_in a1 0 (v2 - 1) h1) fun v3 h4 =>
  iEQ v3 0
    (b_X9_reportByte_29 (-1) h4)
    ((rdR h4 (some a0) [7] 32).bind fun v5 =>
    (aldI h4 .int v5 a1).bind fun v6 =>
    b_X9_reportByte_29 v6 h4)
theorem A_X9_reportByte {M : hp_M} {G : va_G} {h0 : HP} (X : hp_X M G h0 "RenamedWordsModel" "reportByte" cX9_reportByte 2 (some .int) [] 1 30) (a0 : Nat) (a1 : Int) (h : HP) : vv M G h0 2 (hp_End M G h0) jI h 0 [(0, LR (some a0)), (1, LI a1)] [] (f_X9_reportByte a0 a1 h) := by
  unfold f_X9_reportByte
  refine vv_aload_n (pc := 0) X (kf := 0) (i := 0) rfl 0 rfl dX9_reportByte_0 ?_
  refine vv_iconst (pc := 1) X dX9_reportByte_1 ?_
  refine vv_putI (pc := 2) (fin := false) X (fun _ z => by cases List.mem_singleton.mp z; exact fl_X9_69_7) (fun z => nomatch z) (fun z => nomatch z) dX9_reportByte_2 (fun h1 => ?_)
  refine vv_iload_n (pc := 5) X (kf := 1) (i := 1) rfl 1 rfl dX9_reportByte_5 ?_
  refine vv_iconst (pc := 6) X dX9_reportByte_6 ?_
  refine vv_aload_n (pc := 7) X (kf := 0) (i := 0) rfl 0 rfl dX9_reportByte_7 ?_
  refine vv_getI (pc := 8) X (fun _ z => by cases List.mem_singleton.mp z; exact fl_X9_433_7) dX9_reportByte_8 (fun v2 => ?_)
  refine vv_iconst (pc := 11) X dX9_reportByte_11 ?_
  refine vv_isub (pc := 12) X dX9_reportByte_12 ?_
  refine vv_callI (pc := 13) (rest := []) (by rfl) (fun r8 k8 e8 => zz_callS X (m_X9_in (hlM X) _ _ _ _ _ _ e8) q3593 q3594 q164 q3595 nh_X9 rfl (by decide) (by decide) (Nat.le_of_ble_eq_true rfl) dX9_reportByte_13) (fun v3 h4 => ?_)
  refine vv_if_eq (pc := 16) (tgt := 28) X dX9_reportByte_16 rfl ?_ ?_
  · refine vv_iconst (pc := 28) X dX9_reportByte_28 ?_
    exact vv_sub [] (by rfl) (B_X9_reportByte_29 X _ _)
  · refine vv_aload_n (pc := 19) X (kf := 0) (i := 0) rfl 0 rfl dX9_reportByte_19 ?_
    refine vv_getR (pc := 20) X (fun _ z => by cases List.mem_singleton.mp z; exact fl_X9_66_7) dX9_reportByte_20 (fun v5 => ?_)
    refine vv_iload_n (pc := 23) X (kf := 1) (i := 1) rfl 1 rfl dX9_reportByte_23 ?_
    refine vv_iaload (pc := 24) X dX9_reportByte_24 (fun v6 => ?_)
    refine vv_goto (pc := 25) (tgt := 29) X dX9_reportByte_25 rfl ?_
    exact vv_sub [] (by rfl) (B_X9_reportByte_29 X _ _)
theorem m_X9_reportByte {l : Launch} (hl : l.stackTraces = false) {G : va_G} (a0 : Nat) (a1 : Int) (h : HP) : ∀ r hf, f_X9_reportByte a0 a1 h = some (r, hf) → Ct l yX9_reportByte (ws_ yX9_reportByte cX9_reportByte 2 (some .int)) 1 30 G h [.ref a0, .int (iI a1)] (jI r) hf :=
  zz_ofW hl (by decide +kernel) (lv := [(0, LR (some a0)), (1, LI a1)]) (by simp [lv_args, lvL, lvV, zz_rfc, zz_rfs, zz_ci, zz_cr, zz_cj, zz_cf, zz_cd]) (by simp [lg_sl, zz_rfc, zz_ci, zz_cr, zz_cj, zz_cf, zz_cd]) (fun _ X => A_X9_reportByte X a0 a1 h)
