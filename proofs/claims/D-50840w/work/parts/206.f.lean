/-! STAGE 1c: functions and contracts (printed by gen/mkfuncs.py). -/
set_option maxRecDepth 100000
set_option linter.unusedVariables false
-- J1_get java/util/HashMap.get(Ljava/lang/Object;)Ljava/lang/Object;
noncomputable def b_J1_get_18 (s0 : Option Nat) (h : HP) : Option ((Option Nat) × HP) :=
  some (s0, h)
theorem B_J1_get_18 {M : hp_M} {G : va_G} {h0 : HP} (X : hp_X M G h0 "java/util/HashMap" "get" cJ1_get 3 (some (.object "java/lang/Object")) [] 7 211) (s0 : Option Nat) (h : HP) : vv M G h0 3 (hp_End M G h0) jR h 18 [] [LR s0] (b_J1_get_18 s0 h) := by
  unfold b_J1_get_18
  exact vv_aretO X rfl rfl dJ1_get_18
noncomputable def f_J1_get (a0 : Nat) (a1 : Option Nat) (h : HP) : Option ((Option Nat) × HP) :=
  (rcv h (some a0) [23]).bind fun b3 =>
  hb (f_J1_getNode b3 a1 h) fun v1 h2 =>
  rNU v1
    (b_J1_get_18 none h2)
    ((rdR h2 v1 [30] 2).bind fun v5 =>
    b_J1_get_18 v5 h2)
theorem A_J1_get {M : hp_M} {G : va_G} {h0 : HP} (X : hp_X M G h0 "java/util/HashMap" "get" cJ1_get 3 (some (.object "java/lang/Object")) [] 7 211) (a0 : Nat) (a1 : Option Nat) (h : HP) : vv M G h0 3 (hp_End M G h0) jR h 0 [(0, LR (some a0)), (1, LR a1)] [] (f_J1_get a0 a1 h) := by
  unfold f_J1_get
  refine vv_aload_n (pc := 0) X (kf := 0) (i := 0) rfl 0 rfl dJ1_get_0 ?_
  refine vv_aload_n (pc := 1) X (kf := 1) (i := 1) rfl 1 rfl dJ1_get_1 ?_
  refine vv_rcv (fun b3 t9 c9 fs9 e4 g9 k9 => ?_)
  cases List.mem_singleton.mp k9
  refine vv_callR (pc := 2) (rest := []) (by rw [e4]; rfl) (fun r8 k8 e8 => zz_callV X (m_J1_getNode (hlM X) _ _ _ _ _ e8) g9 rfl rfl q1164 q1165 q1166 q136 q1167 nh_J1 rfl (by decide) (by decide) (Nat.le_of_ble_eq_true rfl) dJ1_get_2) (fun v1 h2 => ?_)
  refine vv_dup (pc := 5) X rfl dJ1_get_5 ?_
  refine vv_astore_n (pc := 6) (lv' := [(2, LR v1), (0, LR (some a0)), (1, LR a1)]) X (kf := 2) (i := 2) rfl (by decide) rfl dJ1_get_6 ?_
  refine vv_ifnonnull (pc := 7) (tgt := 14) X dJ1_get_7 rfl ?_ ?_
  · refine vv_aload_n (pc := 14) X (kf := 2) (i := 2) rfl 0 rfl dJ1_get_14 ?_
    refine vv_getR (pc := 15) X (fun _ z => by cases List.mem_singleton.mp z; exact fl_J1_162_30) dJ1_get_15 (fun v5 => ?_)
    exact vv_sub [] (by rfl) (B_J1_get_18 X _ _)
  · refine vv_null (pc := 10) X dJ1_get_10 ?_
    refine vv_goto (pc := 11) (tgt := 18) X dJ1_get_11 rfl ?_
    exact vv_sub [] (by rfl) (B_J1_get_18 X _ _)
theorem m_J1_get {l : Launch} (hl : l.stackTraces = false) {G : va_G} (a0 : Nat) (a1 : Option Nat) (h : HP) : ∀ r hf, f_J1_get a0 a1 h = some (r, hf) → Ct l yJ1_get (ws_ yJ1_get cJ1_get 3 (some (.object "java/lang/Object"))) 7 211 G h [.ref a0, va_rf a1] (jR r) hf :=
  zz_ofW hl (by decide +kernel) (lv := [(0, LR (some a0)), (1, LR a1)]) (by simp [lv_args, lvL, lvV, zz_rfc, zz_rfs, zz_ci, zz_cr, zz_cj, zz_cf, zz_cd]) (by simp [lg_sl, zz_rfc, zz_ci, zz_cr, zz_cj, zz_cf, zz_cd]) (fun _ X => A_J1_get X a0 a1 h)
-- J19_intValue java/lang/Integer.intValue()I
noncomputable def f_J19_intValue (a0 : Nat) (h : HP) : Option ((Int) × HP) :=
  (rdI h (some a0) [27] 0).bind fun v1 =>
  some (v1, h)
theorem A_J19_intValue {M : hp_M} {G : va_G} {h0 : HP} (X : hp_X M G h0 "java/lang/Integer" "intValue" cJ19_intValue 1 (some .int) [] 0 0) (a0 : Nat) (h : HP) : vv M G h0 1 (hp_End M G h0) jI h 0 [(0, LR (some a0))] [] (f_J19_intValue a0 h) := by
  unfold f_J19_intValue
  refine vv_aload_n (pc := 0) X (kf := 0) (i := 0) rfl 0 rfl dJ19_intValue_0 ?_
  refine vv_getI (pc := 1) X (fun _ z => by cases List.mem_singleton.mp z; exact fl_J19_205_27) dJ19_intValue_1 (fun v1 => ?_)
  exact vv_iretI X rfl rfl dJ19_intValue_4
theorem m_J19_intValue {l : Launch} (hl : l.stackTraces = false) {G : va_G} (a0 : Nat) (h : HP) : ∀ r hf, f_J19_intValue a0 h = some (r, hf) → Ct l yJ19_intValue (ws_ yJ19_intValue cJ19_intValue 1 (some .int)) 0 0 G h [.ref a0] (jI r) hf :=
  zz_ofW hl (by decide +kernel) (lv := [(0, LR (some a0))]) (by simp [lv_args, lvL, lvV, zz_rfc, zz_rfs, zz_ci, zz_cr, zz_cj, zz_cf, zz_cd]) (by simp [lg_sl, zz_rfc, zz_ci, zz_cr, zz_cj, zz_cf, zz_cd]) (fun _ X => A_J19_intValue X a0 h)
-- X3_of RenamedWords$Names.of(Ljava/lang/String;)I
noncomputable def b_X3_of_33 (s0 : Int) (h : HP) : Option ((Int) × HP) :=
  some (s0, h)
theorem B_X3_of_33 {M : hp_M} {G : va_G} {h0 : HP} (X : hp_X M G h0 "RenamedWords$Names" "of" cX3_of 3 (some .int) [] 8 241) (s0 : Int) (h : HP) : vv M G h0 3 (hp_End M G h0) jI h 33 [] [LI s0] (b_X3_of_33 s0 h) := by
  unfold b_X3_of_33
  exact vv_iretI X rfl rfl dX3_of_33
noncomputable def f_X3_of (a0 : Nat) (a1 : Option Nat) (h : HP) : Option ((Int) × HP) :=
  (rdR h (some a0) [2] 0).bind fun v1 =>
  hb (nwO h 0 10 [.inr (.inl none)] 1) fun v2 h3 =>
  (v2).bind fun b6 =>
  hb (f_X13_init b6 a1 h3) fun _ h5 =>
  (rcv h5 v1 [23]).bind fun b10 =>
  hb (f_J1_get b10 v2 h5) fun v8 h9 =>
  (chk h9 v8 [27]).bind fun _ =>
  rNU v8
    (b_X3_of_33 (-1) h9)
    ((rcv h9 v8 [27]).bind fun b14 =>
    hb (f_J19_intValue b14 h9) fun v12 h13 =>
    b_X3_of_33 v12 h13)
theorem A_X3_of {M : hp_M} {G : va_G} {h0 : HP} (X : hp_X M G h0 "RenamedWords$Names" "of" cX3_of 3 (some .int) [] 8 241) (a0 : Nat) (a1 : Option Nat) (h : HP) : vv M G h0 3 (hp_End M G h0) jI h 0 [(0, LR (some a0)), (1, LR a1)] [] (f_X3_of a0 a1 h) := by
  unfold f_X3_of
  refine vv_aload_n (pc := 0) X (kf := 0) (i := 0) rfl 0 rfl dX3_of_0 ?_
  refine vv_getR (pc := 1) X (fun _ z => by cases List.mem_singleton.mp z; exact fl_X3_12_2) dX3_of_1 (fun v1 => ?_)
  refine vv_new (pc := 4) X tyX13 rfl in_X13 tyX13_ok q1144 q1145 q170 ndX13 (by decide) dX3_of_4 (fun v2 h3 => ?_)
  refine vv_dup (pc := 7) X rfl dX3_of_7 ?_
  refine vv_aload_n (pc := 8) X (kf := 1) (i := 1) rfl 1 rfl dX3_of_8 ?_
  refine vv_bnd (fun b6 e7 => ?_)
  refine vv_callV (pc := 9) (rest := [LR v2, LR v1]) (by rw [e7]; rfl) (fun r8 k8 e8 => zz_callI X (m_X13_init (hlM X) _ _ _ _ _ e8) q1146 q1147 q170 q1148 rfl nh_X13 rfl (by decide) (by decide) (Nat.le_of_ble_eq_true rfl) dX3_of_9) (fun v4 h5 => ?_)
  refine vv_rcv (fun b10 t9 c9 fs9 e11 g9 k9 => ?_)
  cases List.mem_singleton.mp k9
  refine vv_callR (pc := 12) (rest := []) (by rw [e11]; rfl) (fun r8 k8 e8 => zz_callF X (m_J1_get (hlM X) _ _ _ _ _ e8) g9 rfl q1155 (List.mem_of_getElem? (i := 0) rfl) q1161 q1159 q136 q1163 nh_xjava_util_Map rfl (by decide) (by decide) (Nat.le_of_ble_eq_true rfl) dX3_of_12) (fun v8 h9 => ?_)
  refine vv_checkcast (pc := 17) X ⟨q1559, (fun _ z => by cases List.mem_singleton.mp z; exact ⟨_, rfl, Or.inl rfl⟩)⟩ dX3_of_17 ?_
  refine vv_astore_n (pc := 20) (lv' := [(2, LR v8), (0, LR (some a0)), (1, LR a1)]) X (kf := 2) (i := 2) rfl (by decide) rfl dX3_of_20 ?_
  refine vv_aload_n (pc := 21) X (kf := 2) (i := 2) rfl 0 rfl dX3_of_21 ?_
  refine vv_ifnonnull (pc := 22) (tgt := 29) X dX3_of_22 rfl ?_ ?_
  · refine vv_aload_n (pc := 29) X (kf := 2) (i := 2) rfl 0 rfl dX3_of_29 ?_
    refine vv_rcv (fun b14 t9 c9 fs9 e15 g9 k9 => ?_)
    cases List.mem_singleton.mp k9
    refine vv_callI (pc := 30) (rest := []) (by rw [e15]; rfl) (fun r8 k8 e8 => zz_callV X (m_J19_intValue (hlM X) _ _ _ _ e8) g9 rfl rfl q1560 q1266 q1267 q155 q1268 nh_J19 rfl (by decide) (by decide) (Nat.le_of_ble_eq_true rfl) dX3_of_30) (fun v12 h13 => ?_)
    exact vv_sub [] (by rfl) (B_X3_of_33 X _ _)
  · refine vv_iconst (pc := 25) X dX3_of_25 ?_
    refine vv_goto (pc := 26) (tgt := 33) X dX3_of_26 rfl ?_
    exact vv_sub [] (by rfl) (B_X3_of_33 X _ _)
theorem m_X3_of {l : Launch} (hl : l.stackTraces = false) {G : va_G} (a0 : Nat) (a1 : Option Nat) (h : HP) : ∀ r hf, f_X3_of a0 a1 h = some (r, hf) → Ct l yX3_of (ws_ yX3_of cX3_of 3 (some .int)) 8 241 G h [.ref a0, va_rf a1] (jI r) hf :=
  zz_ofW hl (by decide +kernel) (lv := [(0, LR (some a0)), (1, LR a1)]) (by simp [lv_args, lvL, lvV, zz_rfc, zz_rfs, zz_ci, zz_cr, zz_cj, zz_cf, zz_cd]) (by simp [lg_sl, zz_rfc, zz_ci, zz_cr, zz_cj, zz_cf, zz_cd]) (fun _ X => A_X3_of X a0 a1 h)
-- X14_init RenamedWords$Word.<init>([I)V
noncomputable def f_X14_init (a0 : Nat) (a1 : Option Nat) (h : HP) : Option ((Unit) × HP) :=
  hb (f_X4_init a0 h) fun _ h2 =>
  (wrR h2 (some a0) [11] 0 a1).bind fun h3 =>
  some ((), h3)
theorem A_X14_init {M : hp_M} {G : va_G} {h0 : HP} (X : hp_X M G h0 "RenamedWords$Word" "<init>" cX14_init 2 none [] 2 56) (a0 : Nat) (a1 : Option Nat) (h : HP) : vv M G h0 2 (hp_End M G h0) jV h 0 [(0, LR (some a0)), (1, LR a1)] [] (f_X14_init a0 a1 h) := by
  unfold f_X14_init
  refine vv_aload_n (pc := 0) X (kf := 0) (i := 0) rfl 0 rfl dX14_init_0 ?_
  refine vv_callV (pc := 1) (rest := []) (by rfl) (fun r8 k8 e8 => zz_callIN X (m_X4_init (hlM X) _ _ _ _ e8) q1566 q629 q156 q630 rfl nh_X4 rfl (by decide) (by decide) (Nat.le_of_ble_eq_true rfl) dX14_init_1) (fun v1 h2 => ?_)
  refine vv_aload_n (pc := 4) X (kf := 0) (i := 0) rfl 0 rfl dX14_init_4 ?_
  refine vv_aload_n (pc := 5) X (kf := 1) (i := 1) rfl 1 rfl dX14_init_5 ?_
  refine vv_putR (pc := 6) (ty9 := (.array .int)) (fin := true) X (fun _ z => by cases List.mem_singleton.mp z; exact fl_X14_9_11) (fun _ => rfl) (fun _ => (fun _ z => by cases List.mem_singleton.mp z; exact ⟨_, rfl, rfl⟩)) (by decide +kernel) rfl dX14_init_6 (fun h3 => ?_)
  exact vv_vreturn X rfl rfl dX14_init_9
theorem m_X14_init {l : Launch} (hl : l.stackTraces = false) {G : va_G} (a0 : Nat) (a1 : Option Nat) (h : HP) : ∀ r hf, f_X14_init a0 a1 h = some (r, hf) → Ct l yX14_init (ws_ yX14_init cX14_init 2 none) 2 56 G h [.ref a0, va_rf a1] (jV r) hf :=
  zz_ofW hl (by decide +kernel) (lv := [(0, LR (some a0)), (1, LR a1)]) (by simp [lv_args, lvL, lvV, zz_rfc, zz_rfs, zz_ci, zz_cr, zz_cj, zz_cf, zz_cd]) (by simp [lg_sl, zz_rfc, zz_ci, zz_cr, zz_cj, zz_cf, zz_cd]) (fun _ X => A_X14_init X a0 a1 h)
-- J18_init java/lang/Number.<init>()V
noncomputable def f_J18_init (a0 : Nat) (h : HP) : Option ((Unit) × HP) :=
  some ((), h)
theorem A_J18_init {M : hp_M} {G : va_G} {h0 : HP} (X : hp_X M G h0 "java/lang/Number" "<init>" cJ18_init 1 none [] 1 28) (a0 : Nat) (h : HP) : vv M G h0 1 (hp_End M G h0) jV h 0 [(0, LR (some a0))] [] (f_J18_init a0 h) := by
  unfold f_J18_init
  refine vv_aload_n (pc := 0) X (kf := 0) (i := 0) rfl 0 rfl dJ18_init_0 ?_
  refine vv_objInit (pc := 1) X rfl q1591 q212 q213 (by decide) (by decide) (Nat.le_of_ble_eq_true rfl) dJ18_init_1 ?_
  exact vv_vreturn X rfl rfl dJ18_init_4
theorem m_J18_init {l : Launch} (hl : l.stackTraces = false) {G : va_G} (a0 : Nat) (h : HP) : ∀ r hf, f_J18_init a0 h = some (r, hf) → Ct l yJ18_init (ws_ yJ18_init cJ18_init 1 none) 1 28 G h [.ref a0] (jV r) hf :=
  zz_ofW hl (by decide +kernel) (lv := [(0, LR (some a0))]) (by simp [lv_args, lvL, lvV, zz_rfc, zz_rfs, zz_ci, zz_cr, zz_cj, zz_cf, zz_cd]) (by simp [lg_sl, zz_rfc, zz_ci, zz_cr, zz_cj, zz_cf, zz_cd]) (fun _ X => A_J18_init X a0 h)
-- J19_init java/lang/Integer.<init>(I)V
noncomputable def f_J19_init (a0 : Nat) (a1 : Int) (h : HP) : Option ((Unit) × HP) :=
  hb (f_J18_init a0 h) fun _ h2 =>
  (wrI h2 (some a0) [27] 0 a1).bind fun h3 =>
  some ((), h3)
theorem A_J19_init {M : hp_M} {G : va_G} {h0 : HP} (X : hp_X M G h0 "java/lang/Integer" "<init>" cJ19_init 2 none [] 2 56) (a0 : Nat) (a1 : Int) (h : HP) : vv M G h0 2 (hp_End M G h0) jV h 0 [(0, LR (some a0)), (1, LI a1)] [] (f_J19_init a0 a1 h) := by
  unfold f_J19_init
  refine vv_aload_n (pc := 0) X (kf := 0) (i := 0) rfl 0 rfl dJ19_init_0 ?_
  refine vv_callV (pc := 1) (rest := []) (by rfl) (fun r8 k8 e8 => zz_callI X (m_J18_init (hlM X) _ _ _ _ e8) q1588 q1589 q154 q1590 rfl nh_J18 rfl (by decide) (by decide) (Nat.le_of_ble_eq_true rfl) dJ19_init_1) (fun v1 h2 => ?_)
  refine vv_aload_n (pc := 4) X (kf := 0) (i := 0) rfl 0 rfl dJ19_init_4 ?_
  refine vv_iload_n (pc := 5) X (kf := 1) (i := 1) rfl 1 rfl dJ19_init_5 ?_
  refine vv_putI (pc := 6) (fin := true) X (fun _ z => by cases List.mem_singleton.mp z; exact fl_J19_205_27) (fun _ => rfl) (fun _ => (fun _ z => by cases List.mem_singleton.mp z; exact ⟨_, rfl, rfl⟩)) dJ19_init_6 (fun h3 => ?_)
  exact vv_vreturn X rfl rfl dJ19_init_9
theorem m_J19_init {l : Launch} (hl : l.stackTraces = false) {G : va_G} (a0 : Nat) (a1 : Int) (h : HP) : ∀ r hf, f_J19_init a0 a1 h = some (r, hf) → Ct l yJ19_init (ws_ yJ19_init cJ19_init 2 none) 2 56 G h [.ref a0, .int (iI a1)] (jV r) hf :=
  zz_ofW hl (by decide +kernel) (lv := [(0, LR (some a0)), (1, LI a1)]) (by simp [lv_args, lvL, lvV, zz_rfc, zz_rfs, zz_ci, zz_cr, zz_cj, zz_cf, zz_cd]) (by simp [lg_sl, zz_rfc, zz_ci, zz_cr, zz_cj, zz_cf, zz_cd]) (fun _ X => A_J19_init X a0 a1 h)
-- J19_valueOf java/lang/Integer.valueOf(I)Ljava/lang/Integer;
noncomputable def b_J19_valueOf_23 (x0 : Int) (h : HP) : Option ((Option Nat) × HP) :=
  hb (nwO h 0 27 [.inl 0] 1) fun v1 h2 =>
  (v1).bind fun b5 =>
  hb (f_J19_init b5 x0 h2) fun _ h4 =>
  some (v1, h4)
theorem B_J19_valueOf_23 {M : hp_M} {G : va_G} {h0 : HP} (X : hp_X M G h0 "java/lang/Integer" "valueOf" cJ19_valueOf 1 (some (.object "java/lang/Integer")) [] 3 85) (x0 : Int) (h : HP) : vv M G h0 1 (hp_End M G h0) jR h 23 [(0, LI x0)] [] (b_J19_valueOf_23 x0 h) := by
  unfold b_J19_valueOf_23
  refine vv_new (pc := 23) X tyJ19 rfl in_J19 tyJ19_ok q1264 q1584 q155 ndJ19 (by decide) dJ19_valueOf_23 (fun v1 h2 => ?_)
  refine vv_dup (pc := 26) X rfl dJ19_valueOf_26 ?_
  refine vv_iload_n (pc := 27) X (kf := 0) (i := 0) rfl 0 rfl dJ19_valueOf_27 ?_
  refine vv_bnd (fun b5 e6 => ?_)
  refine vv_callV (pc := 28) (rest := [LR v1]) (by rw [e6]; rfl) (fun r8 k8 e8 => zz_callI X (m_J19_init (hlM X) _ _ _ _ _ e8) q1585 q1586 q155 q1587 rfl nh_J19 rfl (by decide) (by decide) (Nat.le_of_ble_eq_true rfl) dJ19_valueOf_28) (fun v3 h4 => ?_)
  exact vv_aretO X rfl rfl dJ19_valueOf_31
noncomputable def f_J19_valueOf (a1 : Int) (h : HP) : Option ((Option Nat) × HP) :=
  iLT a1 (-128)
    (b_J19_valueOf_23 a1 h)
    (iLT 127 a1
      (b_J19_valueOf_23 a1 h)
      ((aldR h "java/lang/Integer" (hp_c h 107) (a1 + 128)).bind fun v7 =>
      some (v7, h)))
theorem A_J19_valueOf {M : hp_M} {G : va_G} {h0 : HP} (X : hp_X M G h0 "java/lang/Integer" "valueOf" cJ19_valueOf 1 (some (.object "java/lang/Integer")) [] 3 85) (a1 : Int) (h : HP) : vv M G h0 1 (hp_End M G h0) jR h 0 [(0, LI a1)] [] (f_J19_valueOf a1 h) := by
  unfold f_J19_valueOf
  refine vv_iload_n (pc := 0) X (kf := 0) (i := 0) rfl 0 rfl dJ19_valueOf_0 ?_
  refine vv_bipush (pc := 1) X (by decide) dJ19_valueOf_1 ?_
  refine vv_icmp_lt (pc := 3) (tgt := 23) X dJ19_valueOf_3 rfl ?_ ?_
  · exact B_J19_valueOf_23 X _ _
  · refine vv_iload_n (pc := 6) X (kf := 0) (i := 0) rfl 0 rfl dJ19_valueOf_6 ?_
    refine vv_gets (pc := 7) (w := LI 127) X (gs_9 _) rfl q1580 dJ19_valueOf_7 ?_
    refine vv_icmp_gt (pc := 10) (tgt := 23) X dJ19_valueOf_10 rfl ?_ ?_
    · exact B_J19_valueOf_23 X _ _
    · refine vv_gets (pc := 13) (w := LR (hp_c h 107)) X (gs_8 _) rfl q1582 dJ19_valueOf_13 ?_
      refine vv_iload_n (pc := 16) X (kf := 0) (i := 0) rfl 0 rfl dJ19_valueOf_16 ?_
      refine vv_sipush (pc := 17) X (by decide) dJ19_valueOf_17 ?_
      refine vv_iadd (pc := 20) X dJ19_valueOf_20 ?_
      refine vv_aaload (pc := 21) X dJ19_valueOf_21 (fun v7 => ?_)
      exact vv_aretO X rfl rfl dJ19_valueOf_22
theorem m_J19_valueOf {l : Launch} (hl : l.stackTraces = false) {G : va_G} (a1 : Int) (h : HP) : ∀ r hf, f_J19_valueOf a1 h = some (r, hf) → Ct l yJ19_valueOf (ws_ yJ19_valueOf cJ19_valueOf 1 (some (.object "java/lang/Integer"))) 3 85 G h [.int (iI a1)] (jR r) hf :=
  zz_ofW hl (by decide +kernel) (lv := [(0, LI a1)]) (by simp [lv_args, lvL, lvV, zz_rfc, zz_rfs, zz_ci, zz_cr, zz_cj, zz_cf, zz_cd]) (by simp [lg_sl, zz_rfc, zz_ci, zz_cr, zz_cj, zz_cf, zz_cd]) (fun _ X => A_J19_valueOf X a1 h)
-- J1_resize java/util/HashMap.resize()[Ljava/util/HashMap$Node;
noncomputable def b_J1_resize_353 (x6 : Option Nat) (h : HP) : Option ((Option Nat) × HP) :=
  some (x6, h)
theorem B_J1_resize_353 {M : hp_M} {G : va_G} {h0 : HP} (X : hp_X M G h0 "java/util/HashMap" "resize" cJ1_resize 14 (some (.array (.object "java/util/HashMap$Node"))) [] 0 0) (x6 : Option Nat) (h : HP) : vv M G h0 14 (hp_End M G h0) jR h 353 [(6, LR x6)] [] (b_J1_resize_353 x6 h) := by
  unfold b_J1_resize_353
  refine vv_aload (pc := 353) X 0 rfl dJ1_resize_353 ?_
  exact vv_aretA X rfl rfl dJ1_resize_355
noncomputable def b_J1_resize_347 (r151 : Option Nat → Option Nat → Int → Int → Option Nat → Int → HP → Option ((Option Nat) × HP)) (x0 : Option Nat) (x1 : Option Nat) (x2 : Int) (x4 : Int) (x6 : Option Nat) (x7 : Int) (h : HP) : Option ((Option Nat) × HP) :=
  r151 x0 x1 x2 x4 x6 (x7 + 1) h
theorem B_J1_resize_347 {M : hp_M} {G : va_G} {h0 : HP} (X : hp_X M G h0 "java/util/HashMap" "resize" cJ1_resize 14 (some (.array (.object "java/util/HashMap$Node"))) [] 0 0) (r151 : Option Nat → Option Nat → Int → Int → Option Nat → Int → HP → Option ((Option Nat) × HP)) (hr151 : ∀ (y0 : Option Nat) (y1 : Option Nat) (y2 : Int) (y4 : Int) (y6 : Option Nat) (y7 : Int) (h : HP), vv M G h0 14 (hp_End M G h0) jR h 151 [(0, LR y0), (1, LR y1), (2, LI y2), (4, LI y4), (6, LR y6), (7, LI y7)] [] (r151 y0 y1 y2 y4 y6 y7 h)) (x0 : Option Nat) (x1 : Option Nat) (x2 : Int) (x4 : Int) (x6 : Option Nat) (x7 : Int) (h : HP) : vv M G h0 14 (hp_End M G h0) jR h 347 [(0, LR x0), (1, LR x1), (2, LI x2), (4, LI x4), (6, LR x6), (7, LI x7)] [] (b_J1_resize_347 r151 x0 x1 x2 x4 x6 x7 h) := by
  unfold b_J1_resize_347
  refine vv_iinc (pc := 347) (lv' := [(7, LI (x7 + 1)), (0, LR x0), (1, LR x1), (2, LI x2), (4, LI x4), (6, LR x6)]) X 5 rfl (by decide) rfl dJ1_resize_347 ?_
  refine vv_goto (pc := 350) (tgt := 151) X dJ1_resize_350 rfl ?_
  exact vv_sub [1, 2, 3, 4, 5, 0] (by rfl) (hr151 _ _ _ _ _ _ _)
noncomputable def b_J1_resize_327 (r151 : Option Nat → Option Nat → Int → Int → Option Nat → Int → HP → Option ((Option Nat) × HP)) (x0 : Option Nat) (x1 : Option Nat) (x2 : Int) (x4 : Int) (x6 : Option Nat) (x7 : Int) (x11 : Option Nat) (x12 : Option Nat) (h : HP) : Option ((Option Nat) × HP) :=
  rNU x12
    (b_J1_resize_347 r151 x0 x1 x2 x4 x6 x7 h)
    ((wrR h x12 [30] 3 none).bind fun h15 =>
    (astR h15 "java/util/HashMap$Node" [30] x6 (x7 + x2) x11).bind fun h16 =>
    b_J1_resize_347 r151 x0 x1 x2 x4 x6 x7 h16)
theorem B_J1_resize_327 {M : hp_M} {G : va_G} {h0 : HP} (X : hp_X M G h0 "java/util/HashMap" "resize" cJ1_resize 14 (some (.array (.object "java/util/HashMap$Node"))) [] 0 0) (r151 : Option Nat → Option Nat → Int → Int → Option Nat → Int → HP → Option ((Option Nat) × HP)) (hr151 : ∀ (y0 : Option Nat) (y1 : Option Nat) (y2 : Int) (y4 : Int) (y6 : Option Nat) (y7 : Int) (h : HP), vv M G h0 14 (hp_End M G h0) jR h 151 [(0, LR y0), (1, LR y1), (2, LI y2), (4, LI y4), (6, LR y6), (7, LI y7)] [] (r151 y0 y1 y2 y4 y6 y7 h)) (x0 : Option Nat) (x1 : Option Nat) (x2 : Int) (x4 : Int) (x6 : Option Nat) (x7 : Int) (x11 : Option Nat) (x12 : Option Nat) (h : HP) : vv M G h0 14 (hp_End M G h0) jR h 327 [(0, LR x0), (1, LR x1), (2, LI x2), (4, LI x4), (6, LR x6), (7, LI x7), (11, LR x11), (12, LR x12)] [] (b_J1_resize_327 r151 x0 x1 x2 x4 x6 x7 x11 x12 h) := by
  unfold b_J1_resize_327
  refine vv_aload (pc := 327) X 7 rfl dJ1_resize_327 ?_
  refine vv_ifnull (pc := 329) (tgt := 347) X dJ1_resize_329 rfl ?_ ?_
  · exact vv_sub [0, 1, 2, 3, 4, 5] (by rfl) (B_J1_resize_347 X r151 hr151 _ _ _ _ _ _ _)
  · refine vv_aload (pc := 332) X 7 rfl dJ1_resize_332 ?_
    refine vv_null (pc := 334) X dJ1_resize_334 ?_
    refine vv_putR (pc := 335) (ty9 := (.object "java/util/HashMap$Node")) (fin := false) X (fun _ z => by cases List.mem_singleton.mp z; exact fl_J1_177_30) (fun z => nomatch z) (fun z => nomatch z) (by decide +kernel) rfl dJ1_resize_335 (fun h15 => ?_)
    refine vv_aload (pc := 338) X 4 rfl dJ1_resize_338 ?_
    refine vv_iload (pc := 340) X 5 rfl dJ1_resize_340 ?_
    refine vv_iload_n (pc := 342) X (kf := 2) (i := 2) rfl 2 rfl dJ1_resize_342 ?_
    refine vv_iadd (pc := 343) X dJ1_resize_343 ?_
    refine vv_aload (pc := 344) X 6 rfl dJ1_resize_344 ?_
    refine vv_aastore (pc := 346) X (fun _ z => by cases List.mem_singleton.mp z; exact ca_java_util_HashMap_Node_30) dJ1_resize_346 (fun h16 => ?_)
    exact vv_sub [0, 1, 2, 3, 4, 5] (by rfl) (B_J1_resize_347 X r151 hr151 _ _ _ _ _ _ _)
noncomputable def b_J1_resize_301 (r151 : Option Nat → Option Nat → Int → Int → Option Nat → Int → HP → Option ((Option Nat) × HP)) (r235 : Option Nat → Option Nat → Int → Int → Option Nat → Int → Option Nat → Option Nat → Option Nat → Option Nat → Option Nat → HP → Option ((Option Nat) × HP)) (x0 : Option Nat) (x1 : Option Nat) (x2 : Int) (x4 : Int) (x6 : Option Nat) (x7 : Int) (x9 : Option Nat) (x10 : Option Nat) (x11 : Option Nat) (x12 : Option Nat) (x13 : Option Nat) (h : HP) : Option ((Option Nat) × HP) :=
  rNU x13
    (rNU x10
      (b_J1_resize_327 r151 x0 x1 x2 x4 x6 x7 x11 x12 h)
      ((wrR h x10 [30] 3 none).bind fun h17 =>
      (astR h17 "java/util/HashMap$Node" [30] x6 x7 x9).bind fun h18 =>
      b_J1_resize_327 r151 x0 x1 x2 x4 x6 x7 x11 x12 h18))
    (r235 x0 x1 x2 x4 x6 x7 x13 x9 x10 x11 x12 h)
theorem B_J1_resize_301 {M : hp_M} {G : va_G} {h0 : HP} (X : hp_X M G h0 "java/util/HashMap" "resize" cJ1_resize 14 (some (.array (.object "java/util/HashMap$Node"))) [] 0 0) (r151 : Option Nat → Option Nat → Int → Int → Option Nat → Int → HP → Option ((Option Nat) × HP)) (hr151 : ∀ (y0 : Option Nat) (y1 : Option Nat) (y2 : Int) (y4 : Int) (y6 : Option Nat) (y7 : Int) (h : HP), vv M G h0 14 (hp_End M G h0) jR h 151 [(0, LR y0), (1, LR y1), (2, LI y2), (4, LI y4), (6, LR y6), (7, LI y7)] [] (r151 y0 y1 y2 y4 y6 y7 h)) (r235 : Option Nat → Option Nat → Int → Int → Option Nat → Int → Option Nat → Option Nat → Option Nat → Option Nat → Option Nat → HP → Option ((Option Nat) × HP)) (hr235 : ∀ (y0 : Option Nat) (y1 : Option Nat) (y2 : Int) (y4 : Int) (y6 : Option Nat) (y7 : Int) (y8 : Option Nat) (y9 : Option Nat) (y10 : Option Nat) (y11 : Option Nat) (y12 : Option Nat) (h : HP), vv M G h0 14 (hp_End M G h0) jR h 235 [(0, LR y0), (1, LR y1), (2, LI y2), (4, LI y4), (6, LR y6), (7, LI y7), (8, LR y8), (9, LR y9), (10, LR y10), (11, LR y11), (12, LR y12)] [] (r235 y0 y1 y2 y4 y6 y7 y8 y9 y10 y11 y12 h)) (x0 : Option Nat) (x1 : Option Nat) (x2 : Int) (x4 : Int) (x6 : Option Nat) (x7 : Int) (x9 : Option Nat) (x10 : Option Nat) (x11 : Option Nat) (x12 : Option Nat) (x13 : Option Nat) (h : HP) : vv M G h0 14 (hp_End M G h0) jR h 301 [(0, LR x0), (1, LR x1), (2, LI x2), (4, LI x4), (6, LR x6), (7, LI x7), (9, LR x9), (10, LR x10), (11, LR x11), (12, LR x12), (13, LR x13)] [] (b_J1_resize_301 r151 r235 x0 x1 x2 x4 x6 x7 x9 x10 x11 x12 x13 h) := by
  unfold b_J1_resize_301
  refine vv_aload (pc := 301) X 10 rfl dJ1_resize_301 ?_
  refine vv_dup (pc := 303) X rfl dJ1_resize_303 ?_
  refine vv_astore (pc := 304) (lv' := [(8, LR x13), (0, LR x0), (1, LR x1), (2, LI x2), (4, LI x4), (6, LR x6), (7, LI x7), (9, LR x9), (10, LR x10), (11, LR x11), (12, LR x12), (13, LR x13)]) X (by decide) rfl dJ1_resize_304 ?_
  refine vv_ifnonnull (pc := 306) (tgt := 235) X dJ1_resize_306 rfl ?_ ?_
  · exact vv_sub [1, 2, 3, 4, 5, 6, 0, 7, 8, 9, 10] (by rfl) (hr235 _ _ _ _ _ _ _ _ _ _ _ _)
  · refine vv_aload (pc := 309) X 8 rfl dJ1_resize_309 ?_
    refine vv_ifnull (pc := 311) (tgt := 327) X dJ1_resize_311 rfl ?_ ?_
    · exact vv_sub [1, 2, 3, 4, 5, 6, 9, 10] (by rfl) (B_J1_resize_327 X r151 hr151 _ _ _ _ _ _ _ _ _)
    · refine vv_aload (pc := 314) X 8 rfl dJ1_resize_314 ?_
      refine vv_null (pc := 316) X dJ1_resize_316 ?_
      refine vv_putR (pc := 317) (ty9 := (.object "java/util/HashMap$Node")) (fin := false) X (fun _ z => by cases List.mem_singleton.mp z; exact fl_J1_177_30) (fun z => nomatch z) (fun z => nomatch z) (by decide +kernel) rfl dJ1_resize_317 (fun h17 => ?_)
      refine vv_aload (pc := 320) X 5 rfl dJ1_resize_320 ?_
      refine vv_iload (pc := 322) X 6 rfl dJ1_resize_322 ?_
      refine vv_aload (pc := 324) X 7 rfl dJ1_resize_324 ?_
      refine vv_aastore (pc := 326) X (fun _ z => by cases List.mem_singleton.mp z; exact ca_java_util_HashMap_Node_30) dJ1_resize_326 (fun h18 => ?_)
      exact vv_sub [1, 2, 3, 4, 5, 6, 9, 10] (by rfl) (B_J1_resize_327 X r151 hr151 _ _ _ _ _ _ _ _ _)
noncomputable def b_J1_resize_297 (r151 : Option Nat → Option Nat → Int → Int → Option Nat → Int → HP → Option ((Option Nat) × HP)) (r235 : Option Nat → Option Nat → Int → Int → Option Nat → Int → Option Nat → Option Nat → Option Nat → Option Nat → Option Nat → HP → Option ((Option Nat) × HP)) (x0 : Option Nat) (x1 : Option Nat) (x2 : Int) (x4 : Int) (x6 : Option Nat) (x7 : Int) (x8 : Option Nat) (x9 : Option Nat) (x10 : Option Nat) (x11 : Option Nat) (x13 : Option Nat) (h : HP) : Option ((Option Nat) × HP) :=
  b_J1_resize_301 r151 r235 x0 x1 x2 x4 x6 x7 x9 x10 x11 x8 x13 h
theorem B_J1_resize_297 {M : hp_M} {G : va_G} {h0 : HP} (X : hp_X M G h0 "java/util/HashMap" "resize" cJ1_resize 14 (some (.array (.object "java/util/HashMap$Node"))) [] 0 0) (r151 : Option Nat → Option Nat → Int → Int → Option Nat → Int → HP → Option ((Option Nat) × HP)) (hr151 : ∀ (y0 : Option Nat) (y1 : Option Nat) (y2 : Int) (y4 : Int) (y6 : Option Nat) (y7 : Int) (h : HP), vv M G h0 14 (hp_End M G h0) jR h 151 [(0, LR y0), (1, LR y1), (2, LI y2), (4, LI y4), (6, LR y6), (7, LI y7)] [] (r151 y0 y1 y2 y4 y6 y7 h)) (r235 : Option Nat → Option Nat → Int → Int → Option Nat → Int → Option Nat → Option Nat → Option Nat → Option Nat → Option Nat → HP → Option ((Option Nat) × HP)) (hr235 : ∀ (y0 : Option Nat) (y1 : Option Nat) (y2 : Int) (y4 : Int) (y6 : Option Nat) (y7 : Int) (y8 : Option Nat) (y9 : Option Nat) (y10 : Option Nat) (y11 : Option Nat) (y12 : Option Nat) (h : HP), vv M G h0 14 (hp_End M G h0) jR h 235 [(0, LR y0), (1, LR y1), (2, LI y2), (4, LI y4), (6, LR y6), (7, LI y7), (8, LR y8), (9, LR y9), (10, LR y10), (11, LR y11), (12, LR y12)] [] (r235 y0 y1 y2 y4 y6 y7 y8 y9 y10 y11 y12 h)) (x0 : Option Nat) (x1 : Option Nat) (x2 : Int) (x4 : Int) (x6 : Option Nat) (x7 : Int) (x8 : Option Nat) (x9 : Option Nat) (x10 : Option Nat) (x11 : Option Nat) (x13 : Option Nat) (h : HP) : vv M G h0 14 (hp_End M G h0) jR h 297 [(0, LR x0), (1, LR x1), (2, LI x2), (4, LI x4), (6, LR x6), (7, LI x7), (8, LR x8), (9, LR x9), (10, LR x10), (11, LR x11), (13, LR x13)] [] (b_J1_resize_297 r151 r235 x0 x1 x2 x4 x6 x7 x8 x9 x10 x11 x13 h) := by
  unfold b_J1_resize_297
  refine vv_aload (pc := 297) X 6 rfl dJ1_resize_297 ?_
  refine vv_astore (pc := 299) (lv' := [(12, LR x8), (0, LR x0), (1, LR x1), (2, LI x2), (4, LI x4), (6, LR x6), (7, LI x7), (8, LR x8), (9, LR x9), (10, LR x10), (11, LR x11), (13, LR x13)]) X (by decide) rfl dJ1_resize_299 ?_
  exact vv_sub [1, 2, 3, 4, 5, 6, 8, 9, 10, 0, 11] (by rfl) (B_J1_resize_301 X r151 hr151 r235 hr235 _ _ _ _ _ _ _ _ _ _ _ _)
noncomputable def b_J1_resize_271 (r151 : Option Nat → Option Nat → Int → Int → Option Nat → Int → HP → Option ((Option Nat) × HP)) (r235 : Option Nat → Option Nat → Int → Int → Option Nat → Int → Option Nat → Option Nat → Option Nat → Option Nat → Option Nat → HP → Option ((Option Nat) × HP)) (x0 : Option Nat) (x1 : Option Nat) (x2 : Int) (x4 : Int) (x6 : Option Nat) (x7 : Int) (x8 : Option Nat) (x9 : Option Nat) (x11 : Option Nat) (x12 : Option Nat) (x13 : Option Nat) (h : HP) : Option ((Option Nat) × HP) :=
  b_J1_resize_301 r151 r235 x0 x1 x2 x4 x6 x7 x9 x8 x11 x12 x13 h
theorem B_J1_resize_271 {M : hp_M} {G : va_G} {h0 : HP} (X : hp_X M G h0 "java/util/HashMap" "resize" cJ1_resize 14 (some (.array (.object "java/util/HashMap$Node"))) [] 0 0) (r151 : Option Nat → Option Nat → Int → Int → Option Nat → Int → HP → Option ((Option Nat) × HP)) (hr151 : ∀ (y0 : Option Nat) (y1 : Option Nat) (y2 : Int) (y4 : Int) (y6 : Option Nat) (y7 : Int) (h : HP), vv M G h0 14 (hp_End M G h0) jR h 151 [(0, LR y0), (1, LR y1), (2, LI y2), (4, LI y4), (6, LR y6), (7, LI y7)] [] (r151 y0 y1 y2 y4 y6 y7 h)) (r235 : Option Nat → Option Nat → Int → Int → Option Nat → Int → Option Nat → Option Nat → Option Nat → Option Nat → Option Nat → HP → Option ((Option Nat) × HP)) (hr235 : ∀ (y0 : Option Nat) (y1 : Option Nat) (y2 : Int) (y4 : Int) (y6 : Option Nat) (y7 : Int) (y8 : Option Nat) (y9 : Option Nat) (y10 : Option Nat) (y11 : Option Nat) (y12 : Option Nat) (h : HP), vv M G h0 14 (hp_End M G h0) jR h 235 [(0, LR y0), (1, LR y1), (2, LI y2), (4, LI y4), (6, LR y6), (7, LI y7), (8, LR y8), (9, LR y9), (10, LR y10), (11, LR y11), (12, LR y12)] [] (r235 y0 y1 y2 y4 y6 y7 y8 y9 y10 y11 y12 h)) (x0 : Option Nat) (x1 : Option Nat) (x2 : Int) (x4 : Int) (x6 : Option Nat) (x7 : Int) (x8 : Option Nat) (x9 : Option Nat) (x11 : Option Nat) (x12 : Option Nat) (x13 : Option Nat) (h : HP) : vv M G h0 14 (hp_End M G h0) jR h 271 [(0, LR x0), (1, LR x1), (2, LI x2), (4, LI x4), (6, LR x6), (7, LI x7), (8, LR x8), (9, LR x9), (11, LR x11), (12, LR x12), (13, LR x13)] [] (b_J1_resize_271 r151 r235 x0 x1 x2 x4 x6 x7 x8 x9 x11 x12 x13 h) := by
  unfold b_J1_resize_271
  refine vv_aload (pc := 271) X 6 rfl dJ1_resize_271 ?_
  refine vv_astore (pc := 273) (lv' := [(10, LR x8), (0, LR x0), (1, LR x1), (2, LI x2), (4, LI x4), (6, LR x6), (7, LI x7), (8, LR x8), (9, LR x9), (11, LR x11), (12, LR x12), (13, LR x13)]) X (by decide) rfl dJ1_resize_273 ?_
  refine vv_goto (pc := 275) (tgt := 301) X dJ1_resize_275 rfl ?_
  exact vv_sub [1, 2, 3, 4, 5, 6, 8, 0, 9, 10, 11] (by rfl) (B_J1_resize_301 X r151 hr151 r235 hr235 _ _ _ _ _ _ _ _ _ _ _ _)
noncomputable def c_J1_resize_235 (r151 : Option Nat → Option Nat → Int → Int → Option Nat → Int → HP → Option ((Option Nat) × HP)) (r235 : Option Nat → Option Nat → Int → Int → Option Nat → Int → Option Nat → Option Nat → Option Nat → Option Nat → Option Nat → HP → Option ((Option Nat) × HP)) (x0 : Option Nat) (x1 : Option Nat) (x2 : Int) (x4 : Int) (x6 : Option Nat) (x7 : Int) (x8 : Option Nat) (x9 : Option Nat) (x10 : Option Nat) (x11 : Option Nat) (x12 : Option Nat) (h : HP) : Option ((Option Nat) × HP) :=
  (rdR h x8 [30] 3).bind fun v12 =>
  (rdI h x8 [30] 0).bind fun v13 =>
  iEQ (iAnd v13 x2) 0
    (rNU x10
      (b_J1_resize_271 r151 r235 x0 x1 x2 x4 x6 x7 x8 x8 x11 x12 v12 h)
      ((wrR h x10 [30] 3 x8).bind fun h19 =>
      b_J1_resize_271 r151 r235 x0 x1 x2 x4 x6 x7 x8 x9 x11 x12 v12 h19))
    (rNU x12
      (b_J1_resize_297 r151 r235 x0 x1 x2 x4 x6 x7 x8 x9 x10 x8 v12 h)
      ((wrR h x12 [30] 3 x8).bind fun h14 =>
      b_J1_resize_297 r151 r235 x0 x1 x2 x4 x6 x7 x8 x9 x10 x11 v12 h14))
noncomputable def b_J1_resize_235 (r151 : Option Nat → Option Nat → Int → Int → Option Nat → Int → HP → Option ((Option Nat) × HP)) : Option Nat → Option Nat → Int → Int → Option Nat → Int → Option Nat → Option Nat → Option Nat → Option Nat → Option Nat → HP → Option ((Option Nat) × HP) := fx (fun _ _ _ _ _ _ _ _ _ _ _ _ => none) (c_J1_resize_235 r151) FU
theorem C_J1_resize_235 {M : hp_M} {G : va_G} {h0 : HP} (X : hp_X M G h0 "java/util/HashMap" "resize" cJ1_resize 14 (some (.array (.object "java/util/HashMap$Node"))) [] 0 0) (r151 : Option Nat → Option Nat → Int → Int → Option Nat → Int → HP → Option ((Option Nat) × HP)) (hr151 : ∀ (y0 : Option Nat) (y1 : Option Nat) (y2 : Int) (y4 : Int) (y6 : Option Nat) (y7 : Int) (h : HP), vv M G h0 14 (hp_End M G h0) jR h 151 [(0, LR y0), (1, LR y1), (2, LI y2), (4, LI y4), (6, LR y6), (7, LI y7)] [] (r151 y0 y1 y2 y4 y6 y7 h)) (r235 : Option Nat → Option Nat → Int → Int → Option Nat → Int → Option Nat → Option Nat → Option Nat → Option Nat → Option Nat → HP → Option ((Option Nat) × HP)) (hr235 : ∀ (y0 : Option Nat) (y1 : Option Nat) (y2 : Int) (y4 : Int) (y6 : Option Nat) (y7 : Int) (y8 : Option Nat) (y9 : Option Nat) (y10 : Option Nat) (y11 : Option Nat) (y12 : Option Nat) (h : HP), vv M G h0 14 (hp_End M G h0) jR h 235 [(0, LR y0), (1, LR y1), (2, LI y2), (4, LI y4), (6, LR y6), (7, LI y7), (8, LR y8), (9, LR y9), (10, LR y10), (11, LR y11), (12, LR y12)] [] (r235 y0 y1 y2 y4 y6 y7 y8 y9 y10 y11 y12 h)) (x0 : Option Nat) (x1 : Option Nat) (x2 : Int) (x4 : Int) (x6 : Option Nat) (x7 : Int) (x8 : Option Nat) (x9 : Option Nat) (x10 : Option Nat) (x11 : Option Nat) (x12 : Option Nat) (h : HP) : vv M G h0 14 (hp_End M G h0) jR h 235 [(0, LR x0), (1, LR x1), (2, LI x2), (4, LI x4), (6, LR x6), (7, LI x7), (8, LR x8), (9, LR x9), (10, LR x10), (11, LR x11), (12, LR x12)] [] (c_J1_resize_235 r151 r235 x0 x1 x2 x4 x6 x7 x8 x9 x10 x11 x12 h) := by
  unfold c_J1_resize_235
  refine vv_aload (pc := 235) X 6 rfl dJ1_resize_235 ?_
  refine vv_getR (pc := 237) X (fun _ z => by cases List.mem_singleton.mp z; exact fl_J1_177_30) dJ1_resize_237 (fun v12 => ?_)
  refine vv_astore (pc := 240) (lv' := [(13, LR v12), (0, LR x0), (1, LR x1), (2, LI x2), (4, LI x4), (6, LR x6), (7, LI x7), (8, LR x8), (9, LR x9), (10, LR x10), (11, LR x11), (12, LR x12)]) X (by decide) rfl dJ1_resize_240 ?_
  refine vv_aload (pc := 242) X 7 rfl dJ1_resize_242 ?_
  refine vv_getI (pc := 244) X (fun _ z => by cases List.mem_singleton.mp z; exact fl_J1_168_30) dJ1_resize_244 (fun v13 => ?_)
  refine vv_iload_n (pc := 247) X (kf := 2) (i := 2) rfl 3 rfl dJ1_resize_247 ?_
  refine vv_iand (pc := 248) X dJ1_resize_248 ?_
  refine vv_if_ne (pc := 249) (tgt := 278) X dJ1_resize_249 rfl ?_ ?_
  · refine vv_aload (pc := 278) X 11 rfl dJ1_resize_278 ?_
    refine vv_ifnonnull (pc := 280) (tgt := 290) X dJ1_resize_280 rfl ?_ ?_
    · refine vv_aload (pc := 290) X 11 rfl dJ1_resize_290 ?_
      refine vv_aload (pc := 292) X 7 rfl dJ1_resize_292 ?_
      refine vv_putR (pc := 294) (ty9 := (.object "java/util/HashMap$Node")) (fin := false) X (fun _ z => by cases List.mem_singleton.mp z; exact fl_J1_177_30) (fun z => nomatch z) (fun z => nomatch z) (by decide +kernel) rfl dJ1_resize_294 (fun h14 => ?_)
      exact vv_sub [1, 2, 3, 4, 5, 6, 7, 8, 9, 10, 0] (by rfl) (B_J1_resize_297 X r151 hr151 r235 hr235 _ _ _ _ _ _ _ _ _ _ _ _)
    · refine vv_aload (pc := 283) X 7 rfl dJ1_resize_283 ?_
      refine vv_astore (pc := 285) (lv' := [(11, LR x8), (13, LR v12), (0, LR x0), (1, LR x1), (2, LI x2), (4, LI x4), (6, LR x6), (7, LI x7), (8, LR x8), (9, LR x9), (10, LR x10), (12, LR x12)]) X (by decide) rfl dJ1_resize_285 ?_
      refine vv_goto (pc := 287) (tgt := 297) X dJ1_resize_287 rfl ?_
      exact vv_sub [2, 3, 4, 5, 6, 7, 8, 9, 10, 0, 1] (by rfl) (B_J1_resize_297 X r151 hr151 r235 hr235 _ _ _ _ _ _ _ _ _ _ _ _)
  · refine vv_aload (pc := 252) X 9 rfl dJ1_resize_252 ?_
    refine vv_ifnonnull (pc := 254) (tgt := 264) X dJ1_resize_254 rfl ?_ ?_
    · refine vv_aload (pc := 264) X 9 rfl dJ1_resize_264 ?_
      refine vv_aload (pc := 266) X 7 rfl dJ1_resize_266 ?_
      refine vv_putR (pc := 268) (ty9 := (.object "java/util/HashMap$Node")) (fin := false) X (fun _ z => by cases List.mem_singleton.mp z; exact fl_J1_177_30) (fun z => nomatch z) (fun z => nomatch z) (by decide +kernel) rfl dJ1_resize_268 (fun h19 => ?_)
      exact vv_sub [1, 2, 3, 4, 5, 6, 7, 8, 10, 11, 0] (by rfl) (B_J1_resize_271 X r151 hr151 r235 hr235 _ _ _ _ _ _ _ _ _ _ _ _)
    · refine vv_aload (pc := 257) X 7 rfl dJ1_resize_257 ?_
      refine vv_astore (pc := 259) (lv' := [(9, LR x8), (13, LR v12), (0, LR x0), (1, LR x1), (2, LI x2), (4, LI x4), (6, LR x6), (7, LI x7), (8, LR x8), (10, LR x10), (11, LR x11), (12, LR x12)]) X (by decide) rfl dJ1_resize_259 ?_
      refine vv_goto (pc := 261) (tgt := 271) X dJ1_resize_261 rfl ?_
      exact vv_sub [2, 3, 4, 5, 6, 7, 8, 0, 10, 11, 1] (by rfl) (B_J1_resize_271 X r151 hr151 r235 hr235 _ _ _ _ _ _ _ _ _ _ _ _)
theorem B_J1_resize_235 {M : hp_M} {G : va_G} {h0 : HP} (X : hp_X M G h0 "java/util/HashMap" "resize" cJ1_resize 14 (some (.array (.object "java/util/HashMap$Node"))) [] 0 0) (r151 : Option Nat → Option Nat → Int → Int → Option Nat → Int → HP → Option ((Option Nat) × HP)) (hr151 : ∀ (y0 : Option Nat) (y1 : Option Nat) (y2 : Int) (y4 : Int) (y6 : Option Nat) (y7 : Int) (h : HP), vv M G h0 14 (hp_End M G h0) jR h 151 [(0, LR y0), (1, LR y1), (2, LI y2), (4, LI y4), (6, LR y6), (7, LI y7)] [] (r151 y0 y1 y2 y4 y6 y7 h)) : ∀ (x0 : Option Nat) (x1 : Option Nat) (x2 : Int) (x4 : Int) (x6 : Option Nat) (x7 : Int) (x8 : Option Nat) (x9 : Option Nat) (x10 : Option Nat) (x11 : Option Nat) (x12 : Option Nat) (h : HP), vv M G h0 14 (hp_End M G h0) jR h 235 [(0, LR x0), (1, LR x1), (2, LI x2), (4, LI x4), (6, LR x6), (7, LI x7), (8, LR x8), (9, LR x9), (10, LR x10), (11, LR x11), (12, LR x12)] [] (b_J1_resize_235 r151 x0 x1 x2 x4 x6 x7 x8 x9 x10 x11 x12 h) := by
  unfold b_J1_resize_235
  generalize FU = n
  induction n with
  | zero => intro x0 x1 x2 x4 x6 x7 x8 x9 x10 x11 x12 h; exact vv_none
  | succ n ih => exact C_J1_resize_235 X r151 hr151 _ ih
noncomputable def c_J1_resize_151 (r151 : Option Nat → Option Nat → Int → Int → Option Nat → Int → HP → Option ((Option Nat) × HP)) (x0 : Option Nat) (x1 : Option Nat) (x2 : Int) (x4 : Int) (x6 : Option Nat) (x7 : Int) (h : HP) : Option ((Option Nat) × HP) :=
  iLE x2 x7
    (b_J1_resize_353 x6 h)
    ((aldR h "java/util/HashMap$Node" x1 x7).bind fun v8 =>
    rNU v8
      (b_J1_resize_347 r151 x0 x1 x2 x4 x6 x7 h)
      ((astR h "java/util/HashMap$Node" [30] x1 x7 none).bind fun h9 =>
      (rdR h9 v8 [30] 3).bind fun v10 =>
      rNU v10
        ((rdI h9 v8 [30] 0).bind fun v20 =>
        (astR h9 "java/util/HashMap$Node" [30] x6 (iAnd v20 (x4 - 1)) v8).bind fun h21 =>
        b_J1_resize_347 r151 x0 x1 x2 x4 x6 x7 h21)
        ((ins h9 v8 [] [30]).bind fun v11 =>
        iEQ v11 0
          (b_J1_resize_235 r151 x0 x1 x2 x4 x6 x7 v8 none none none none h9)
          ((chk h9 v8 []).bind fun _ =>
          none))))
noncomputable def b_J1_resize_151 : Option Nat → Option Nat → Int → Int → Option Nat → Int → HP → Option ((Option Nat) × HP) := fx (fun _ _ _ _ _ _ _ => none) (c_J1_resize_151) FU
theorem C_J1_resize_151 {M : hp_M} {G : va_G} {h0 : HP} (X : hp_X M G h0 "java/util/HashMap" "resize" cJ1_resize 14 (some (.array (.object "java/util/HashMap$Node"))) [] 0 0) (r151 : Option Nat → Option Nat → Int → Int → Option Nat → Int → HP → Option ((Option Nat) × HP)) (hr151 : ∀ (y0 : Option Nat) (y1 : Option Nat) (y2 : Int) (y4 : Int) (y6 : Option Nat) (y7 : Int) (h : HP), vv M G h0 14 (hp_End M G h0) jR h 151 [(0, LR y0), (1, LR y1), (2, LI y2), (4, LI y4), (6, LR y6), (7, LI y7)] [] (r151 y0 y1 y2 y4 y6 y7 h)) (x0 : Option Nat) (x1 : Option Nat) (x2 : Int) (x4 : Int) (x6 : Option Nat) (x7 : Int) (h : HP) : vv M G h0 14 (hp_End M G h0) jR h 151 [(0, LR x0), (1, LR x1), (2, LI x2), (4, LI x4), (6, LR x6), (7, LI x7)] [] (c_J1_resize_151 r151 x0 x1 x2 x4 x6 x7 h) := by
  unfold c_J1_resize_151
  refine vv_iload (pc := 151) X 5 rfl dJ1_resize_151 ?_
  refine vv_iload_n (pc := 153) X (kf := 2) (i := 2) rfl 2 rfl dJ1_resize_153 ?_
  refine vv_icmp_ge (pc := 154) (tgt := 353) X dJ1_resize_154 rfl ?_ ?_
  · exact vv_sub [4] (by rfl) (B_J1_resize_353 X _ _)
  · refine vv_aload_n (pc := 157) X (kf := 1) (i := 1) rfl 1 rfl dJ1_resize_157 ?_
    refine vv_iload (pc := 158) X 5 rfl dJ1_resize_158 ?_
    refine vv_aaload (pc := 160) X dJ1_resize_160 (fun v8 => ?_)
    refine vv_dup (pc := 161) X rfl dJ1_resize_161 ?_
    refine vv_astore (pc := 162) (lv' := [(8, LR v8), (0, LR x0), (1, LR x1), (2, LI x2), (4, LI x4), (6, LR x6), (7, LI x7)]) X (by decide) rfl dJ1_resize_162 ?_
    refine vv_ifnull (pc := 164) (tgt := 347) X dJ1_resize_164 rfl ?_ ?_
    · exact vv_sub [1, 2, 3, 4, 5, 6] (by rfl) (B_J1_resize_347 X r151 hr151 _ _ _ _ _ _ _)
    · refine vv_aload_n (pc := 167) X (kf := 1) (i := 1) rfl 2 rfl dJ1_resize_167 ?_
      refine vv_iload (pc := 168) X 6 rfl dJ1_resize_168 ?_
      refine vv_null (pc := 170) X dJ1_resize_170 ?_
      refine vv_aastore (pc := 171) X (fun _ z => by cases List.mem_singleton.mp z; exact ca_java_util_HashMap_Node_30) dJ1_resize_171 (fun h9 => ?_)
      refine vv_aload (pc := 172) X 0 rfl dJ1_resize_172 ?_
      refine vv_getR (pc := 174) X (fun _ z => by cases List.mem_singleton.mp z; exact fl_J1_177_30) dJ1_resize_174 (fun v10 => ?_)
      refine vv_ifnonnull (pc := 177) (tgt := 198) X dJ1_resize_177 rfl ?_ ?_
      · refine vv_aload (pc := 198) X 0 rfl dJ1_resize_198 ?_
        refine vv_instanceof (pc := 200) X ⟨q1274, (fun _ z => nomatch z)⟩ (fun _ z => by cases List.mem_singleton.mp z; exact ⟨_, rfl, List.mem_of_getElem? (i := 3) rfl⟩) dJ1_resize_200 (fun v11 => ?_)
        refine vv_if_eq (pc := 203) (tgt := 223) X dJ1_resize_203 rfl ?_ ?_
        · refine vv_null (pc := 223) X dJ1_resize_223 ?_
          refine vv_astore (pc := 224) (lv' := [(9, LR none), (8, LR v8), (0, LR x0), (1, LR x1), (2, LI x2), (4, LI x4), (6, LR x6), (7, LI x7)]) X (by decide) rfl dJ1_resize_224 ?_
          refine vv_null (pc := 226) X dJ1_resize_226 ?_
          refine vv_astore (pc := 227) (lv' := [(10, LR none), (9, LR none), (8, LR v8), (0, LR x0), (1, LR x1), (2, LI x2), (4, LI x4), (6, LR x6), (7, LI x7)]) X (by decide) rfl dJ1_resize_227 ?_
          refine vv_null (pc := 229) X dJ1_resize_229 ?_
          refine vv_astore (pc := 230) (lv' := [(11, LR none), (10, LR none), (9, LR none), (8, LR v8), (0, LR x0), (1, LR x1), (2, LI x2), (4, LI x4), (6, LR x6), (7, LI x7)]) X (by decide) rfl dJ1_resize_230 ?_
          refine vv_null (pc := 232) X dJ1_resize_232 ?_
          refine vv_astore (pc := 233) (lv' := [(12, LR none), (11, LR none), (10, LR none), (9, LR none), (8, LR v8), (0, LR x0), (1, LR x1), (2, LI x2), (4, LI x4), (6, LR x6), (7, LI x7)]) X (by decide) rfl dJ1_resize_233 ?_
          exact vv_sub [5, 6, 7, 8, 9, 10, 4, 3, 2, 1, 0] (by rfl) (B_J1_resize_235 X r151 hr151 _ _ _ _ _ _ _ _ _ _ _ _)
        · refine vv_aload (pc := 206) X 0 rfl dJ1_resize_206 ?_
          refine vv_checkcast (pc := 208) X ⟨q1274, (fun _ z => nomatch z)⟩ dJ1_resize_208 ?_
          refine vv_aload_n (pc := 211) X (kf := 0) (i := 0) rfl 1 rfl dJ1_resize_211 ?_
          refine vv_aload (pc := 212) X 5 rfl dJ1_resize_212 ?_
          refine vv_iload (pc := 214) X 6 rfl dJ1_resize_214 ?_
          refine vv_iload_n (pc := 216) X (kf := 2) (i := 2) rfl 3 rfl dJ1_resize_216 ?_
          exact vv_none
      · refine vv_aload (pc := 180) X 5 rfl dJ1_resize_180 ?_
        refine vv_aload (pc := 182) X 0 rfl dJ1_resize_182 ?_
        refine vv_getI (pc := 184) X (fun _ z => by cases List.mem_singleton.mp z; exact fl_J1_168_30) dJ1_resize_184 (fun v20 => ?_)
        refine vv_iload (pc := 187) X 4 rfl dJ1_resize_187 ?_
        refine vv_iconst (pc := 189) X dJ1_resize_189 ?_
        refine vv_isub (pc := 190) X dJ1_resize_190 ?_
        refine vv_iand (pc := 191) X dJ1_resize_191 ?_
        refine vv_aload (pc := 192) X 0 rfl dJ1_resize_192 ?_
        refine vv_aastore (pc := 194) X (fun _ z => by cases List.mem_singleton.mp z; exact ca_java_util_HashMap_Node_30) dJ1_resize_194 (fun h21 => ?_)
        refine vv_goto (pc := 195) (tgt := 347) X dJ1_resize_195 rfl ?_
        exact vv_sub [1, 2, 3, 4, 5, 6] (by rfl) (B_J1_resize_347 X r151 hr151 _ _ _ _ _ _ _)
theorem B_J1_resize_151 {M : hp_M} {G : va_G} {h0 : HP} (X : hp_X M G h0 "java/util/HashMap" "resize" cJ1_resize 14 (some (.array (.object "java/util/HashMap$Node"))) [] 0 0) : ∀ (x0 : Option Nat) (x1 : Option Nat) (x2 : Int) (x4 : Int) (x6 : Option Nat) (x7 : Int) (h : HP), vv M G h0 14 (hp_End M G h0) jR h 151 [(0, LR x0), (1, LR x1), (2, LI x2), (4, LI x4), (6, LR x6), (7, LI x7)] [] (b_J1_resize_151 x0 x1 x2 x4 x6 x7 h) := by
  unfold b_J1_resize_151
  generalize FU = n
  induction n with
  | zero => intro x0 x1 x2 x4 x6 x7 h; exact vv_none
  | succ n ih => exact C_J1_resize_151 X _ ih
noncomputable def b_J1_resize_125 (x0 : Option Nat) (x1 : Option Nat) (x2 : Int) (x4 : Int) (x5 : Int) (h : HP) : Option ((Option Nat) × HP) :=
  (wrI h x0 [23] 6 x5).bind fun h4 =>
  hb (nwR h4 (tgR h4 x0) "java/util/HashMap$Node" x4) fun v5 h6 =>
  (wrR h6 x0 [23] 2 v5).bind fun h7 =>
  rNU x1
    (b_J1_resize_353 v5 h7)
    (b_J1_resize_151 x0 x1 x2 x4 v5 0 h7)
theorem B_J1_resize_125 {M : hp_M} {G : va_G} {h0 : HP} (X : hp_X M G h0 "java/util/HashMap" "resize" cJ1_resize 14 (some (.array (.object "java/util/HashMap$Node"))) [] 0 0) (x0 : Option Nat) (x1 : Option Nat) (x2 : Int) (x4 : Int) (x5 : Int) (h : HP) : vv M G h0 14 (hp_End M G h0) jR h 125 [(0, LR x0), (1, LR x1), (2, LI x2), (4, LI x4), (5, LI x5)] [] (b_J1_resize_125 x0 x1 x2 x4 x5 h) := by
  unfold b_J1_resize_125
  refine vv_aload_n (pc := 125) X (kf := 0) (i := 0) rfl 0 rfl dJ1_resize_125 ?_
  refine vv_iload (pc := 126) X 4 rfl dJ1_resize_126 ?_
  refine vv_putI (pc := 128) (fin := false) X (fun _ z => by cases List.mem_singleton.mp z; exact fl_J1_88_23) (fun z => nomatch z) (fun z => nomatch z) dJ1_resize_128 (fun h4 => ?_)
  refine vv_iload (pc := 131) X 3 rfl dJ1_resize_131 ?_
  refine vv_newref (pc := 133) X q1616 ao_java_util_HashMap_Node dJ1_resize_133 (fun v5 h6 => ?_)
  refine vv_astore (pc := 136) (lv' := [(6, LR v5), (0, LR x0), (1, LR x1), (2, LI x2), (4, LI x4), (5, LI x5)]) X (by decide) rfl dJ1_resize_136 ?_
  refine vv_aload_n (pc := 138) X (kf := 0) (i := 0) rfl 1 rfl dJ1_resize_138 ?_
  refine vv_aload (pc := 139) X 0 rfl dJ1_resize_139 ?_
  refine vv_putR (pc := 141) (ty9 := (.array (.object "java/util/HashMap$Node"))) (fin := false) X (fun _ z => by cases List.mem_singleton.mp z; exact fl_J1_105_23) (fun z => nomatch z) (fun z => nomatch z) (by decide +kernel) rfl dJ1_resize_141 (fun h7 => ?_)
  refine vv_aload_n (pc := 144) X (kf := 1) (i := 1) rfl 2 rfl dJ1_resize_144 ?_
  refine vv_ifnull (pc := 145) (tgt := 353) X dJ1_resize_145 rfl ?_ ?_
  · exact vv_sub [0] (by rfl) (B_J1_resize_353 X _ _)
  · refine vv_iconst (pc := 148) X dJ1_resize_148 ?_
    refine vv_istore (pc := 149) (lv' := [(7, LI 0), (6, LR v5), (0, LR x0), (1, LR x1), (2, LI x2), (4, LI x4), (5, LI x5)]) X (by decide) rfl dJ1_resize_149 ?_
    exact vv_sub [2, 3, 4, 5, 1, 0] (by rfl) (B_J1_resize_151 X _ _ _ _ _ _ _)
noncomputable def b_J1_resize_123 (x0 : Option Nat) (x1 : Option Nat) (x2 : Int) (x4 : Int) (s0 : Int) (h : HP) : Option ((Option Nat) × HP) :=
  b_J1_resize_125 x0 x1 x2 x4 s0 h
theorem B_J1_resize_123 {M : hp_M} {G : va_G} {h0 : HP} (X : hp_X M G h0 "java/util/HashMap" "resize" cJ1_resize 14 (some (.array (.object "java/util/HashMap$Node"))) [] 0 0) (x0 : Option Nat) (x1 : Option Nat) (x2 : Int) (x4 : Int) (s0 : Int) (h : HP) : vv M G h0 14 (hp_End M G h0) jR h 123 [(0, LR x0), (1, LR x1), (2, LI x2), (4, LI x4)] [LI s0] (b_J1_resize_123 x0 x1 x2 x4 s0 h) := by
  unfold b_J1_resize_123
  refine vv_istore (pc := 123) (lv' := [(5, LI s0), (0, LR x0), (1, LR x1), (2, LI x2), (4, LI x4)]) X (by decide) rfl dJ1_resize_123 ?_
  exact vv_sub [1, 2, 3, 4, 0] (by rfl) (B_J1_resize_125 X _ _ _ _ _ _)
noncomputable def b_J1_resize_121 (x0 : Option Nat) (x1 : Option Nat) (x2 : Int) (x4 : Int) (h : HP) : Option ((Option Nat) × HP) :=
  b_J1_resize_123 x0 x1 x2 x4 2147483647 h
theorem B_J1_resize_121 {M : hp_M} {G : va_G} {h0 : HP} (X : hp_X M G h0 "java/util/HashMap" "resize" cJ1_resize 14 (some (.array (.object "java/util/HashMap$Node"))) [] 0 0) (x0 : Option Nat) (x1 : Option Nat) (x2 : Int) (x4 : Int) (h : HP) : vv M G h0 14 (hp_End M G h0) jR h 121 [(0, LR x0), (1, LR x1), (2, LI x2), (4, LI x4)] [] (b_J1_resize_121 x0 x1 x2 x4 h) := by
  unfold b_J1_resize_121
  refine vv_ldcI (pc := 121) (n := 2147483647) X q1614 (by decide) dJ1_resize_121 ?_
  exact B_J1_resize_123 X _ _ _ _ _ _
noncomputable def b_J1_resize_85 (x0 : Option Nat) (x1 : Option Nat) (x2 : Int) (x4 : Int) (x5 : Int) (h : HP) : Option ((Option Nat) × HP) :=
  iEQ x5 0
    ((rdF h x0 [23] 7).bind fun v22 =>
    (fMl (FP.i2f (iI x4)) v22).bind fun v23 =>
    iLE 1073741824 x4
      (b_J1_resize_121 x0 x1 x2 x4 h)
      (iLE 0 (fCmp .g v23 (1317011456 : UInt32))
        (b_J1_resize_121 x0 x1 x2 x4 h)
        (b_J1_resize_123 x0 x1 x2 x4 (fI v23) h)))
    (b_J1_resize_125 x0 x1 x2 x4 x5 h)
theorem B_J1_resize_85 {M : hp_M} {G : va_G} {h0 : HP} (X : hp_X M G h0 "java/util/HashMap" "resize" cJ1_resize 14 (some (.array (.object "java/util/HashMap$Node"))) [] 0 0) (x0 : Option Nat) (x1 : Option Nat) (x2 : Int) (x4 : Int) (x5 : Int) (h : HP) : vv M G h0 14 (hp_End M G h0) jR h 85 [(0, LR x0), (1, LR x1), (2, LI x2), (4, LI x4), (5, LI x5)] [] (b_J1_resize_85 x0 x1 x2 x4 x5 h) := by
  unfold b_J1_resize_85
  refine vv_iload (pc := 85) X 4 rfl dJ1_resize_85 ?_
  refine vv_if_ne (pc := 87) (tgt := 125) X dJ1_resize_87 rfl ?_ ?_
  · exact B_J1_resize_125 X _ _ _ _ _ _
  · refine vv_iload (pc := 90) X 3 rfl dJ1_resize_90 ?_
    refine vv_i2f (pc := 92) X dJ1_resize_92 ?_
    refine vv_aload_n (pc := 93) X (kf := 0) (i := 0) rfl 0 rfl dJ1_resize_93 ?_
    refine vv_getF (pc := 94) X (fun _ z => by cases List.mem_singleton.mp z; exact fl_J1_81_23) dJ1_resize_94 (fun v22 => ?_)
    refine vv_fmul (pc := 97) X dJ1_resize_97 (fun v23 => ?_)
    refine vv_fstore (pc := 98) (lv' := [(6, LF v23), (0, LR x0), (1, LR x1), (2, LI x2), (4, LI x4), (5, LI x5)]) X (by decide) rfl dJ1_resize_98 ?_
    refine vv_iload (pc := 100) X 4 rfl dJ1_resize_100 ?_
    refine vv_ldcI (pc := 102) (n := 1073741824) X q1613 (by decide) dJ1_resize_102 ?_
    refine vv_icmp_ge (pc := 104) (tgt := 121) X dJ1_resize_104 rfl ?_ ?_
    · exact vv_sub [1, 2, 3, 4] (by rfl) (B_J1_resize_121 X _ _ _ _ _)
    · refine vv_fload (pc := 107) X 0 rfl dJ1_resize_107 ?_
      refine vv_ldcF (pc := 109) X q1615 dJ1_resize_109 ?_
      refine vv_fcmp (pc := 111) X dJ1_resize_111 ?_
      refine vv_if_ge (pc := 112) (tgt := 121) X dJ1_resize_112 rfl ?_ ?_
      · exact vv_sub [1, 2, 3, 4] (by rfl) (B_J1_resize_121 X _ _ _ _ _)
      · refine vv_fload (pc := 115) X 0 rfl dJ1_resize_115 ?_
        refine vv_f2i (pc := 117) X dJ1_resize_117 ?_
        refine vv_goto (pc := 118) (tgt := 123) X dJ1_resize_118 rfl ?_
        exact vv_sub [1, 2, 3, 4] (by rfl) (B_J1_resize_123 X _ _ _ _ _ _)
noncomputable def b_J1_resize_15 (x0 : Option Nat) (x1 : Option Nat) (s0 : Int) (h : HP) : Option ((Option Nat) × HP) :=
  (rdI h x0 [23] 6).bind fun v3 =>
  iLE s0 0
    (iLE v3 0
      (b_J1_resize_85 x0 x1 s0 16 12 h)
      (b_J1_resize_85 x0 x1 s0 v3 0 h))
    (iLT s0 1073741824
      (iLE 1073741824 (iShl s0 1)
        (b_J1_resize_85 x0 x1 s0 (iShl s0 1) 0 h)
        (iLT s0 16
          (b_J1_resize_85 x0 x1 s0 (iShl s0 1) 0 h)
          (b_J1_resize_85 x0 x1 s0 (iShl s0 1) (iShl v3 1) h)))
      ((wrI h x0 [23] 6 2147483647).bind fun h24 =>
      some (x1, h24)))
theorem B_J1_resize_15 {M : hp_M} {G : va_G} {h0 : HP} (X : hp_X M G h0 "java/util/HashMap" "resize" cJ1_resize 14 (some (.array (.object "java/util/HashMap$Node"))) [] 0 0) (x0 : Option Nat) (x1 : Option Nat) (s0 : Int) (h : HP) : vv M G h0 14 (hp_End M G h0) jR h 15 [(0, LR x0), (1, LR x1)] [LI s0] (b_J1_resize_15 x0 x1 s0 h) := by
  unfold b_J1_resize_15
  refine vv_istore_n (pc := 15) (lv' := [(2, LI s0), (0, LR x0), (1, LR x1)]) X (kf := 2) (i := 2) rfl (by decide) rfl dJ1_resize_15 ?_
  refine vv_aload_n (pc := 16) X (kf := 0) (i := 0) rfl 1 rfl dJ1_resize_16 ?_
  refine vv_getI (pc := 17) X (fun _ z => by cases List.mem_singleton.mp z; exact fl_J1_88_23) dJ1_resize_17 (fun v3 => ?_)
  refine vv_istore_n (pc := 20) (lv' := [(3, LI v3), (2, LI s0), (0, LR x0), (1, LR x1)]) X (kf := 3) (i := 3) rfl (by decide) rfl dJ1_resize_20 ?_
  refine vv_iconst (pc := 21) X dJ1_resize_21 ?_
  refine vv_istore (pc := 22) (lv' := [(5, LI 0), (3, LI v3), (2, LI s0), (0, LR x0), (1, LR x1)]) X (by decide) rfl dJ1_resize_22 ?_
  refine vv_iload_n (pc := 24) X (kf := 2) (i := 2) rfl 2 rfl dJ1_resize_24 ?_
  refine vv_if_le (pc := 25) (tgt := 67) X dJ1_resize_25 rfl ?_ ?_
  · refine vv_iload_n (pc := 67) X (kf := 3) (i := 3) rfl 1 rfl dJ1_resize_67 ?_
    refine vv_if_le (pc := 68) (tgt := 77) X dJ1_resize_68 rfl ?_ ?_
    · refine vv_bipush (pc := 77) X (by decide) dJ1_resize_77 ?_
      refine vv_istore (pc := 79) (lv' := [(4, LI 16), (5, LI 0), (3, LI v3), (2, LI s0), (0, LR x0), (1, LR x1)]) X (by decide) rfl dJ1_resize_79 ?_
      refine vv_bipush (pc := 81) X (by decide) dJ1_resize_81 ?_
      refine vv_istore (pc := 83) (lv' := [(5, LI 12), (4, LI 16), (3, LI v3), (2, LI s0), (0, LR x0), (1, LR x1)]) X (by decide) rfl dJ1_resize_83 ?_
      exact vv_sub [4, 5, 3, 1, 0] (by rfl) (B_J1_resize_85 X _ _ _ _ _ _)
    · refine vv_iload_n (pc := 71) X (kf := 3) (i := 3) rfl 1 rfl dJ1_resize_71 ?_
      refine vv_istore (pc := 72) (lv' := [(4, LI v3), (5, LI 0), (3, LI v3), (2, LI s0), (0, LR x0), (1, LR x1)]) X (by decide) rfl dJ1_resize_72 ?_
      refine vv_goto (pc := 74) (tgt := 85) X dJ1_resize_74 rfl ?_
      exact vv_sub [4, 5, 3, 0, 1] (by rfl) (B_J1_resize_85 X _ _ _ _ _ _)
  · refine vv_iload_n (pc := 28) X (kf := 2) (i := 2) rfl 2 rfl dJ1_resize_28 ?_
    refine vv_ldcI (pc := 29) (n := 1073741824) X q1613 (by decide) dJ1_resize_29 ?_
    refine vv_icmp_lt (pc := 31) (tgt := 42) X dJ1_resize_31 rfl ?_ ?_
    · refine vv_iload_n (pc := 42) X (kf := 2) (i := 2) rfl 2 rfl dJ1_resize_42 ?_
      refine vv_iconst (pc := 43) X dJ1_resize_43 ?_
      refine vv_ishl (pc := 44) X dJ1_resize_44 ?_
      refine vv_dup (pc := 45) X rfl dJ1_resize_45 ?_
      refine vv_istore (pc := 46) (lv' := [(4, LI (iShl s0 1)), (5, LI 0), (3, LI v3), (2, LI s0), (0, LR x0), (1, LR x1)]) X (by decide) rfl dJ1_resize_46 ?_
      refine vv_ldcI (pc := 48) (n := 1073741824) X q1613 (by decide) dJ1_resize_48 ?_
      refine vv_icmp_ge (pc := 50) (tgt := 85) X dJ1_resize_50 rfl ?_ ?_
      · exact vv_sub [4, 5, 3, 0, 1] (by rfl) (B_J1_resize_85 X _ _ _ _ _ _)
      · refine vv_iload_n (pc := 53) X (kf := 2) (i := 2) rfl 3 rfl dJ1_resize_53 ?_
        refine vv_bipush (pc := 54) X (by decide) dJ1_resize_54 ?_
        refine vv_icmp_lt (pc := 56) (tgt := 85) X dJ1_resize_56 rfl ?_ ?_
        · exact vv_sub [4, 5, 3, 0, 1] (by rfl) (B_J1_resize_85 X _ _ _ _ _ _)
        · refine vv_iload_n (pc := 59) X (kf := 3) (i := 3) rfl 2 rfl dJ1_resize_59 ?_
          refine vv_iconst (pc := 60) X dJ1_resize_60 ?_
          refine vv_ishl (pc := 61) X dJ1_resize_61 ?_
          refine vv_istore (pc := 62) (lv' := [(5, LI (iShl v3 1)), (4, LI (iShl s0 1)), (3, LI v3), (2, LI s0), (0, LR x0), (1, LR x1)]) X (by decide) rfl dJ1_resize_62 ?_
          refine vv_goto (pc := 64) (tgt := 85) X dJ1_resize_64 rfl ?_
          exact vv_sub [4, 5, 3, 1, 0] (by rfl) (B_J1_resize_85 X _ _ _ _ _ _)
    · refine vv_aload_n (pc := 34) X (kf := 0) (i := 0) rfl 3 rfl dJ1_resize_34 ?_
      refine vv_ldcI (pc := 35) (n := 2147483647) X q1614 (by decide) dJ1_resize_35 ?_
      refine vv_putI (pc := 37) (fin := false) X (fun _ z => by cases List.mem_singleton.mp z; exact fl_J1_88_23) (fun z => nomatch z) (fun z => nomatch z) dJ1_resize_37 (fun h24 => ?_)
      refine vv_aload_n (pc := 40) X (kf := 1) (i := 1) rfl 4 rfl dJ1_resize_40 ?_
      exact vv_aretA X rfl rfl dJ1_resize_41
noncomputable def f_J1_resize (a0 : Nat) (h : HP) : Option ((Option Nat) × HP) :=
  (rdR h (some a0) [23] 2).bind fun v1 =>
  rNU v1
    (b_J1_resize_15 (some a0) v1 0 h)
    ((alen h v1).bind fun v2 =>
    b_J1_resize_15 (some a0) v1 v2 h)
theorem A_J1_resize {M : hp_M} {G : va_G} {h0 : HP} (X : hp_X M G h0 "java/util/HashMap" "resize" cJ1_resize 14 (some (.array (.object "java/util/HashMap$Node"))) [] 0 0) (a0 : Nat) (h : HP) : vv M G h0 14 (hp_End M G h0) jR h 0 [(0, LR (some a0))] [] (f_J1_resize a0 h) := by
  unfold f_J1_resize
  refine vv_aload_n (pc := 0) X (kf := 0) (i := 0) rfl 0 rfl dJ1_resize_0 ?_
  refine vv_getR (pc := 1) X (fun _ z => by cases List.mem_singleton.mp z; exact fl_J1_105_23) dJ1_resize_1 (fun v1 => ?_)
  refine vv_astore_n (pc := 4) (lv' := [(1, LR v1), (0, LR (some a0))]) X (kf := 1) (i := 1) rfl (by decide) rfl dJ1_resize_4 ?_
  refine vv_aload_n (pc := 5) X (kf := 1) (i := 1) rfl 0 rfl dJ1_resize_5 ?_
  refine vv_ifnonnull (pc := 6) (tgt := 13) X dJ1_resize_6 rfl ?_ ?_
  · refine vv_aload_n (pc := 13) X (kf := 1) (i := 1) rfl 0 rfl dJ1_resize_13 ?_
    refine vv_alen (pc := 14) X dJ1_resize_14 (fun v2 => ?_)
    exact vv_sub [1, 0] (by rfl) (B_J1_resize_15 X _ _ _ _)
  · refine vv_iconst (pc := 9) X dJ1_resize_9 ?_
    refine vv_goto (pc := 10) (tgt := 15) X dJ1_resize_10 rfl ?_
    exact vv_sub [1, 0] (by rfl) (B_J1_resize_15 X _ _ _ _)
theorem m_J1_resize {l : Launch} (hl : l.stackTraces = false) {G : va_G} (a0 : Nat) (h : HP) : ∀ r hf, f_J1_resize a0 h = some (r, hf) → Ct l yJ1_resize (ws_ yJ1_resize cJ1_resize 14 (some (.array (.object "java/util/HashMap$Node")))) 0 0 G h [.ref a0] (jR r) hf :=
  zz_ofW hl (by decide +kernel) (lv := [(0, LR (some a0))]) (by simp [lv_args, lvL, lvV, zz_rfc, zz_rfs, zz_ci, zz_cr, zz_cj, zz_cf, zz_cd]) (by simp [lg_sl, zz_rfc, zz_ci, zz_cr, zz_cj, zz_cf, zz_cd]) (fun _ X => A_J1_resize X a0 h)
-- J26_init java/util/HashMap$Node.<init>(ILjava/lang/Object;Ljava/lang/Object;Ljava/util/HashMap$Node;)V
noncomputable def f_J26_init (a0 : Nat) (a1 : Int) (a2 : Option Nat) (a3 : Option Nat) (a4 : Option Nat) (h : HP) : Option ((Unit) × HP) :=
  (wrI h (some a0) [30] 0 a1).bind fun h1 =>
  (wrR h1 (some a0) [30] 1 a2).bind fun h2 =>
  (wrR h2 (some a0) [30] 2 a3).bind fun h3 =>
  (wrR h3 (some a0) [30] 3 a4).bind fun h4 =>
  some ((), h4)
theorem A_J26_init {M : hp_M} {G : va_G} {h0 : HP} (X : hp_X M G h0 "java/util/HashMap$Node" "<init>" cJ26_init 5 none [] 1 28) (a0 : Nat) (a1 : Int) (a2 : Option Nat) (a3 : Option Nat) (a4 : Option Nat) (h : HP) : vv M G h0 5 (hp_End M G h0) jV h 0 [(0, LR (some a0)), (1, LI a1), (2, LR a2), (3, LR a3), (4, LR a4)] [] (f_J26_init a0 a1 a2 a3 a4 h) := by
  unfold f_J26_init
  refine vv_aload_n (pc := 0) X (kf := 0) (i := 0) rfl 0 rfl dJ26_init_0 ?_
  refine vv_objInit (pc := 1) X rfl q1635 q212 q213 (by decide) (by decide) (Nat.le_of_ble_eq_true rfl) dJ26_init_1 ?_
  refine vv_aload_n (pc := 4) X (kf := 0) (i := 0) rfl 0 rfl dJ26_init_4 ?_
  refine vv_iload_n (pc := 5) X (kf := 1) (i := 1) rfl 1 rfl dJ26_init_5 ?_
  refine vv_putI (pc := 6) (fin := true) X (fun _ z => by cases List.mem_singleton.mp z; exact fl_J26_7_30) (fun _ => rfl) (fun _ => (fun _ z => by cases List.mem_singleton.mp z; exact ⟨_, rfl, rfl⟩)) dJ26_init_6 (fun h1 => ?_)
  refine vv_aload_n (pc := 9) X (kf := 0) (i := 0) rfl 0 rfl dJ26_init_9 ?_
  refine vv_aload_n (pc := 10) X (kf := 2) (i := 2) rfl 2 rfl dJ26_init_10 ?_
  refine vv_putR (pc := 11) (ty9 := (.object "java/lang/Object")) (fin := true) X (fun _ z => by cases List.mem_singleton.mp z; exact fl_J26_13_30) (fun _ => rfl) (fun _ => (fun _ z => by cases List.mem_singleton.mp z; exact ⟨_, rfl, rfl⟩)) (by decide +kernel) rfl dJ26_init_11 (fun h2 => ?_)
  refine vv_aload_n (pc := 14) X (kf := 0) (i := 0) rfl 0 rfl dJ26_init_14 ?_
  refine vv_aload_n (pc := 15) X (kf := 3) (i := 3) rfl 3 rfl dJ26_init_15 ?_
  refine vv_putR (pc := 16) (ty9 := (.object "java/lang/Object")) (fin := false) X (fun _ z => by cases List.mem_singleton.mp z; exact fl_J26_17_30) (fun z => nomatch z) (fun z => nomatch z) (by decide +kernel) rfl dJ26_init_16 (fun h3 => ?_)
  refine vv_aload_n (pc := 19) X (kf := 0) (i := 0) rfl 0 rfl dJ26_init_19 ?_
  refine vv_aload (pc := 20) X 4 rfl dJ26_init_20 ?_
  refine vv_putR (pc := 22) (ty9 := (.object "java/util/HashMap$Node")) (fin := false) X (fun _ z => by cases List.mem_singleton.mp z; exact fl_J26_20_30) (fun z => nomatch z) (fun z => nomatch z) (by decide +kernel) rfl dJ26_init_22 (fun h4 => ?_)
  exact vv_vreturn X rfl rfl dJ26_init_25
theorem m_J26_init {l : Launch} (hl : l.stackTraces = false) {G : va_G} (a0 : Nat) (a1 : Int) (a2 : Option Nat) (a3 : Option Nat) (a4 : Option Nat) (h : HP) : ∀ r hf, f_J26_init a0 a1 a2 a3 a4 h = some (r, hf) → Ct l yJ26_init (ws_ yJ26_init cJ26_init 5 none) 1 28 G h [.ref a0, .int (iI a1), va_rf a2, va_rf a3, va_rf a4] (jV r) hf :=
  zz_ofW hl (by decide +kernel) (lv := [(0, LR (some a0)), (1, LI a1), (2, LR a2), (3, LR a3), (4, LR a4)]) (by simp [lv_args, lvL, lvV, zz_rfc, zz_rfs, zz_ci, zz_cr, zz_cj, zz_cf, zz_cd]) (by simp [lg_sl, zz_rfc, zz_ci, zz_cr, zz_cj, zz_cf, zz_cd]) (fun _ X => A_J26_init X a0 a1 a2 a3 a4 h)
